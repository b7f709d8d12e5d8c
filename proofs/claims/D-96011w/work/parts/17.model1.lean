/-! Model, first half: printed by gen/all.py -/
set_option maxRecDepth 100000
def f_X3_in (x1 : Int64) (x2 : Int64) (x3 : Int64) : Option Int32 :=
 (if (lg_cmp x1 x2) < 0 then
 some 0
 else
 (if (0 : Int32) < (lg_cmp x1 x3) then
 some 0
 else
 some 1))
abbrev rm_X3_in : Room := { frames := 0, cells := 0, slots := 0, locals := 0 }
set_option maxHeartbeats 4000000 in
set_option maxRecDepth 100000 in
theorem m_X3_in (l : Launch) (D : va_G) (g : Nat → ClassId) (sz : Nat)  (x1 : Int64) (x2 : Int64) (x3 : Int64) (rO : Int32) (hf : f_X3_in x1 x2 x3 = some rO) : bMet (S := Unit) l yX3_in (ws_ yX3_in cX3_in 6 (some .boolean)) rm_X3_in D g sz [.long x1, .long x2, .long x3] [] (fun _ => True) (fun _ => some (.int rO)) (fun _ => []) := by
  refine b_met (by decide) (Nat.le_of_ble_eq_true rfl) ?_
  intro p e s m args below meth c A Q ls hx hb hml hr hlk hown hname hts hE hl hW
  revert hW; generalize s.heap = H; intro hW
  have hl : lv_has ls 6 [(0, .long x1), (2, .long x2), (4, .long x3)] := hl
  rw [f_X3_in] at hf
  refine lv_lload_n hx hb dX3_in_0 rfl (lv_at hl 0 rfl) ?_
  refine lv_lload_n hx hb dX3_in_1 rfl (lv_at hl 1 rfl) ?_
  refine W.lcmp hx hb dX3_in_2 ?_
  refine lv_if_lt (tgt := 17) hx hb dX3_in_3 (by decide) (fun c1 => ?_) (fun c1 => ?_)
  · have hf := o_t hf c1
    refine lv_iconst (v := 0) hx hb dX3_in_17 (by decide) ?_
    cases hf
    exact b_zret hx hb hr hlk hE hW () rfl trivial rfl (by decide) dX3_in_18
  · have hf := o_f hf c1
    refine lv_lload_n hx hb dX3_in_6 rfl (lv_at hl 0 rfl) ?_
    refine lv_lload hx hb dX3_in_7 (lv_at hl 2 rfl) ?_
    refine W.lcmp hx hb dX3_in_9 ?_
    refine lv_if_gt (tgt := 17) hx hb dX3_in_10 (by decide) (fun c2 => ?_) (fun c2 => ?_)
    · have hf := o_t hf c2
      refine lv_iconst (v := 0) hx hb dX3_in_17 (by decide) ?_
      cases hf
      exact b_zret hx hb hr hlk hE hW () rfl trivial rfl (by decide) dX3_in_18
    · have hf := o_f hf c2
      refine lv_iconst (v := 1) hx hb dX3_in_13 (by decide) ?_
      refine lv_goto (tgt := 18) hx hb dX3_in_14 (by decide) ?_
      cases hf
      exact b_zret hx hb hr hlk hE hW () rfl trivial rfl (by decide) dX3_in_18
def f_X3_refuse (M : BC) (x1 : Int32) : Option (Int32 × BC) :=
 o_ck (inB (-x1) 8) (o_lt ((M.1 16 (ix (-x1))) + 1) fun (v2 : Int32) =>
 o_lt (bI M 16 (upd (M.1 16) (ix (-x1)) v2)) fun (M3 : BC) =>
 some (x1, M3))
abbrev rm_X3_refuse : Room := { frames := 0, cells := 0, slots := 0, locals := 0 }
set_option maxHeartbeats 4000000 in
set_option maxRecDepth 100000 in
theorem m_X3_refuse (l : Launch) (D : va_G) (g : Nat → ClassId) (sz : Nat) (adM : Nat → Nat) (kM : Option Nat) (tM : Option Nat) (M : BC) (x1 : Int32) (rO : Int32) (MO : BC) (hf : f_X3_refuse M x1 = some (rO, MO)) : bMet (S := Unit) l yX3_refuse (ws_ yX3_refuse cX3_refuse 2 (some .int)) rm_X3_refuse D g sz [.ref (adM 0), .int x1] [mW g adM kM tM M] (fun _ => True) (fun _ => some (.int rO)) (fun _ => [mW g adM kM tM MO]) := by
  refine b_met (by decide) (Nat.le_of_ble_eq_true rfl) ?_
  intro p e s m args below meth c A Q ls hx hb hml hr hlk hown hname hts hE hl hW
  revert hW; generalize s.heap = H; intro hW
  have hl : lv_has ls 2 [(0, .ref (adM 0)), (1, .int x1)] := hl
  rw [f_X3_refuse] at hf
  refine lv_aload_n hx hb dX3_refuse_0 rfl (lv_at hl 0 rfl) ?_
  refine b_get hx hb hts in_X3 hown hW 0 0 3 8 rfl mW_0 rfl (by decide) ⟨rfl, rfl, rfl⟩ (hts _ q1467) mW_g8 dX3_refuse_1 ?_
  refine lv_iload_n hx hb dX3_refuse_4 rfl (lv_at hl 1 rfl) ?_
  refine lv_ineg hx hb dX3_refuse_5 ?_
  refine lv_dup2_11 hx hb dX3_refuse_6 rfl rfl ?_
  obtain ⟨h1, hf⟩ := o_cs hf
  refine b_iald hx hb hW 0 16 rfl mW_16 h1 dX3_refuse_7 ?_
  refine lv_iconst (v := 1) hx hb dX3_refuse_8 (by decide) ?_
  refine lv_iadd hx hb dX3_refuse_9 ?_
  obtain ⟨v2, ev2, hf⟩ := o_ls hf
  refine b_topi ev2 ?_
  obtain ⟨M3, eM3, hf⟩ := o_ls hf
  refine b_iast hx hb hW 0 16 rfl mW_16 (mW_s16 eM3) rfl h1 dX3_refuse_10 (fun H locs hW => ?_)
  have hW : bW D g A s H locs [mW g adM kM tM M3] := hW
  refine lv_iload_n hx hb dX3_refuse_11 rfl (lv_at hl 1 rfl) ?_
  cases hf
  exact b_iret hx hb hr hlk hE hW () rfl trivial rfl dX3_refuse_12
def f_X3_row_L67 (x1 : Int32) (rec15 : (Int32 × BC) → Option (Int32 × BC)) : Int32 × BC → Option (Int32 × BC)
  | (v16, M17) =>
    (if (40 : Int32) ≤ v16 then
     some (1, M17)
     else
     o_ck (inB v16 40) (o_lt (bL M17 (5 + ix x1) (vp_updL (M17.2.2 (5 + ix x1)) (ix v16) 0)) fun (M20 : BC) =>
     o_lt (v16 + 1) fun (v21 : Int32) =>
     rec15 (v21, M20)))
def f_X3_row (fu : Nat) (M : BC) (x1 : Int32) (x2 : Int32) (x3 : Int32) : Option (Int32 × BC) :=
 o_b1 (f_X3_in x1.toInt64 0 7) fun (r1 : Int32) =>
 (if r1 = 0 then
 o_b2 (f_X3_refuse M (-2)) fun (r3 : Int32) (M4 : BC) =>
 some (r3, M4)
 else
 o_b1 (f_X3_in x2.toInt64 0 4) fun (r5 : Int32) =>
 (if r5 = 0 then
 o_b2 (f_X3_refuse M (-2)) fun (r7 : Int32) (M8 : BC) =>
 some (r7, M8)
 else
 o_b1 (f_X3_in x3.toInt64 0 40) fun (r9 : Int32) =>
 (if r9 = 0 then
 o_b2 (f_X3_refuse M (-2)) fun (r22 : Int32) (M23 : BC) =>
 some (r22, M23)
 else
 o_ck (inB x1 8) (o_lt (bI M 1 (upd (M.1 1) (ix x1) 1)) fun (M12 : BC) =>
 o_lt (bI M12 2 (upd (M12.1 2) (ix x1) x2)) fun (M13 : BC) =>
 o_lt (bI M13 3 (upd (M13.1 3) (ix x1) x3)) fun (M14 : BC) =>
 o_lp (f_X3_row_L67 x1) fu (0, M14)))))
abbrev rm_X3_row : Room := { frames := 1, cells := 0, slots := 0, locals := 25 }
set_option maxHeartbeats 4000000 in
set_option maxRecDepth 100000 in
theorem m_X3_row (l : Launch) (D : va_G) (g : Nat → ClassId) (sz : Nat) (adM : Nat → Nat) (kM : Option Nat) (tM : Option Nat) (fu : Nat) (M : BC) (x1 : Int32) (x2 : Int32) (x3 : Int32) (rO : Int32) (MO : BC) (hf : f_X3_row fu M x1 x2 x3 = some (rO, MO)) : bMet (S := Unit) l yX3_row (ws_ yX3_row cX3_row 5 (some .int)) rm_X3_row D g sz [.ref (adM 0), .int x1, .int x2, .int x3] [mW g adM kM tM M] (fun _ => True) (fun _ => some (.int rO)) (fun _ => [mW g adM kM tM MO]) := by
  refine b_met (by decide) (Nat.le_of_ble_eq_true rfl) ?_
  intro p e s m args below meth c A Q ls hx hb hml hr hlk hown hname hts hE hl hW
  revert hW; generalize s.heap = H; intro hW
  have hl : lv_has ls 5 [(0, .ref (adM 0)), (1, .int x1), (2, .int x2), (3, .int x3)] := hl
  rw [f_X3_row] at hf
  refine lv_iload_n hx hb dX3_row_0 rfl (lv_at hl 1 rfl) ?_
  refine lv_i2l hx hb dX3_row_1 rfl ?_
  refine lv_lconst (v := 0) hx hb dX3_row_2 (by decide) ?_
  refine lv_ldc2 (v := 7) hx hb hown (hts _ q1566) dX3_row_3 ?_
  obtain ⟨r1, hc1, hf⟩ := o_b1s hf
  have hp1 : List.Perm [mW g adM kM tM M] ([] ++ [mW g adM kM tM M]) := b_perm [] [0] 1 rfl rfl rfl rfl
  refine b_call0 ⟨rfl, rfl⟩ (va_runS (As := [.long x1.toInt64, .long 0, .long 7]) (rest := []) ⟨hx, hb, hml, hown, hts⟩ (m_X3_in l D g H.size x1.toInt64 0 7 r1 hc1) (va_cwS 3 hts (lw_S q1567 q1568 q79 q1569) rfl rfl rfl (by decide +kernel) ⟨Nat.le_of_ble_eq_true rfl, Nat.le_of_ble_eq_true rfl⟩) (b_preS hW hp1) rfl rfl hl.1 rfl (lv_room (Nat.le_of_ble_eq_true rfl)) dX3_row_6 ⟨Nat.le_of_ble_eq_true rfl, Nat.le_of_ble_eq_true rfl⟩) hW hp1 (fun _ _ H locs hW => ?_)
  have hW : bW D g A s H locs [mW g adM kM tM M] := hW
  refine lv_if_eq (tgt := 36) hx hb dX3_row_9 (by decide) (fun c2 => ?_) (fun c2 => ?_)
  · have hf := o_t hf c2
    refine lv_aload_n hx hb dX3_row_36 rfl (lv_at hl 0 rfl) ?_
    refine lv_bipush (v := (-2)) hx hb dX3_row_37 (by decide) ?_
    obtain ⟨r3, M4, hc4, hf⟩ := o_b2s hf
    have hp4 : List.Perm [mW g adM kM tM M] ([mW g adM kM tM M] ++ []) := b_perm [0] [] 1 rfl rfl rfl rfl
    refine b_call0 ⟨rfl, rfl⟩ (va_runV (As := [.int (-2)]) (rest := []) ⟨hx, hb, hml, hown, hts⟩ (m_X3_refuse l D g H.size adM kM tM M (-2) r3 M4 hc4) (cwV 1 hts (lw_V q1572 q1574 qs33 q79 q1575) rfl rfl rfl (by decide +kernel) ⟨Nat.le_of_ble_eq_true rfl, Nat.le_of_ble_eq_true rfl⟩) (b_preV (pp := 0) (q := 0) hW hp4 rfl mW_0 rfl) rfl rfl hl.1 rfl (lv_room (Nat.le_of_ble_eq_true rfl)) dX3_row_39 ⟨Nat.le_of_ble_eq_true rfl, Nat.le_of_ble_eq_true rfl⟩) hW hp4 (fun _ _ H locs hW => ?_)
    have hW : bW D g A s H locs [mW g adM kM tM M4] := hW
    cases hf
    exact b_iret hx hb hr hlk hE hW () rfl trivial rfl dX3_row_42
  · have hf := o_f hf c2
    refine lv_iload_n hx hb dX3_row_12 rfl (lv_at hl 2 rfl) ?_
    refine lv_i2l hx hb dX3_row_13 rfl ?_
    refine lv_lconst (v := 0) hx hb dX3_row_14 (by decide) ?_
    refine lv_ldc2 (v := 4) hx hb hown (hts _ q1570) dX3_row_15 ?_
    obtain ⟨r5, hc5, hf⟩ := o_b1s hf
    have hp5 : List.Perm [mW g adM kM tM M] ([] ++ [mW g adM kM tM M]) := b_perm [] [0] 1 rfl rfl rfl rfl
    refine b_call0 ⟨rfl, rfl⟩ (va_runS (As := [.long x2.toInt64, .long 0, .long 4]) (rest := []) ⟨hx, hb, hml, hown, hts⟩ (m_X3_in l D g H.size x2.toInt64 0 4 r5 hc5) (va_cwS 3 hts (lw_S q1567 q1568 q79 q1569) rfl rfl rfl (by decide +kernel) ⟨Nat.le_of_ble_eq_true rfl, Nat.le_of_ble_eq_true rfl⟩) (b_preS hW hp5) rfl rfl hl.1 rfl (lv_room (Nat.le_of_ble_eq_true rfl)) dX3_row_18 ⟨Nat.le_of_ble_eq_true rfl, Nat.le_of_ble_eq_true rfl⟩) hW hp5 (fun _ _ H locs hW => ?_)
    have hW : bW D g A s H locs [mW g adM kM tM M] := hW
    refine lv_if_eq (tgt := 36) hx hb dX3_row_21 (by decide) (fun c6 => ?_) (fun c6 => ?_)
    · have hf := o_t hf c6
      refine lv_aload_n hx hb dX3_row_36 rfl (lv_at hl 0 rfl) ?_
      refine lv_bipush (v := (-2)) hx hb dX3_row_37 (by decide) ?_
      obtain ⟨r7, M8, hc8, hf⟩ := o_b2s hf
      have hp8 : List.Perm [mW g adM kM tM M] ([mW g adM kM tM M] ++ []) := b_perm [0] [] 1 rfl rfl rfl rfl
      refine b_call0 ⟨rfl, rfl⟩ (va_runV (As := [.int (-2)]) (rest := []) ⟨hx, hb, hml, hown, hts⟩ (m_X3_refuse l D g H.size adM kM tM M (-2) r7 M8 hc8) (cwV 1 hts (lw_V q1572 q1574 qs33 q79 q1575) rfl rfl rfl (by decide +kernel) ⟨Nat.le_of_ble_eq_true rfl, Nat.le_of_ble_eq_true rfl⟩) (b_preV (pp := 0) (q := 0) hW hp8 rfl mW_0 rfl) rfl rfl hl.1 rfl (lv_room (Nat.le_of_ble_eq_true rfl)) dX3_row_39 ⟨Nat.le_of_ble_eq_true rfl, Nat.le_of_ble_eq_true rfl⟩) hW hp8 (fun _ _ H locs hW => ?_)
      have hW : bW D g A s H locs [mW g adM kM tM M8] := hW
      cases hf
      exact b_iret hx hb hr hlk hE hW () rfl trivial rfl dX3_row_42
    · have hf := o_f hf c6
      refine lv_iload_n hx hb dX3_row_24 rfl (lv_at hl 3 rfl) ?_
      refine lv_i2l hx hb dX3_row_25 rfl ?_
      refine lv_lconst (v := 0) hx hb dX3_row_26 (by decide) ?_
      refine lv_ldc2 (v := 40) hx hb hown (hts _ q1571) dX3_row_27 ?_
      obtain ⟨r9, hc9, hf⟩ := o_b1s hf
      have hp9 : List.Perm [mW g adM kM tM M] ([] ++ [mW g adM kM tM M]) := b_perm [] [0] 1 rfl rfl rfl rfl
      refine b_call0 ⟨rfl, rfl⟩ (va_runS (As := [.long x3.toInt64, .long 0, .long 40]) (rest := []) ⟨hx, hb, hml, hown, hts⟩ (m_X3_in l D g H.size x3.toInt64 0 40 r9 hc9) (va_cwS 3 hts (lw_S q1567 q1568 q79 q1569) rfl rfl rfl (by decide +kernel) ⟨Nat.le_of_ble_eq_true rfl, Nat.le_of_ble_eq_true rfl⟩) (b_preS hW hp9) rfl rfl hl.1 rfl (lv_room (Nat.le_of_ble_eq_true rfl)) dX3_row_30 ⟨Nat.le_of_ble_eq_true rfl, Nat.le_of_ble_eq_true rfl⟩) hW hp9 (fun _ _ H locs hW => ?_)
      have hW : bW D g A s H locs [mW g adM kM tM M] := hW
      refine lv_if_ne (tgt := 43) hx hb dX3_row_33 (by decide) (fun c10 => ?_) (fun c10 => ?_)
      · have hf := o_f hf c10
        refine lv_aload_n hx hb dX3_row_43 rfl (lv_at hl 0 rfl) ?_
        refine b_get hx hb hts in_X3 hown hW 0 0 3 0 rfl mW_0 rfl (by decide) ⟨rfl, rfl, rfl⟩ (hts _ q1459) mW_g0 dX3_row_44 ?_
        refine lv_iload_n hx hb dX3_row_47 rfl (lv_at hl 1 rfl) ?_
        refine lv_iconst (v := 1) hx hb dX3_row_48 (by decide) ?_
        obtain ⟨h11, hf⟩ := o_cs hf
        obtain ⟨M12, eM12, hf⟩ := o_ls hf
        refine b_iast hx hb hW 0 1 rfl mW_1 (mW_s1 eM12) rfl h11 dX3_row_49 (fun H locs hW => ?_)
        have hW : bW D g A s H locs [mW g adM kM tM M12] := hW
        refine lv_aload_n hx hb dX3_row_50 rfl (lv_at hl 0 rfl) ?_
        refine b_get hx hb hts in_X3 hown hW 0 0 3 1 rfl mW_0 rfl (by decide) ⟨rfl, rfl, rfl⟩ (hts _ q1460) mW_g1 dX3_row_51 ?_
        refine lv_iload_n hx hb dX3_row_54 rfl (lv_at hl 1 rfl) ?_
        refine lv_iload_n hx hb dX3_row_55 rfl (lv_at hl 2 rfl) ?_
        obtain ⟨M13, eM13, hf⟩ := o_ls hf
        refine b_iast hx hb hW 0 2 rfl mW_2 (mW_s2 eM13) rfl h11 dX3_row_56 (fun H locs hW => ?_)
        have hW : bW D g A s H locs [mW g adM kM tM M13] := hW
        refine lv_aload_n hx hb dX3_row_57 rfl (lv_at hl 0 rfl) ?_
        refine b_get hx hb hts in_X3 hown hW 0 0 3 2 rfl mW_0 rfl (by decide) ⟨rfl, rfl, rfl⟩ (hts _ q1461) mW_g2 dX3_row_58 ?_
        refine lv_iload_n hx hb dX3_row_61 rfl (lv_at hl 1 rfl) ?_
        refine lv_iload_n hx hb dX3_row_62 rfl (lv_at hl 3 rfl) ?_
        obtain ⟨M14, eM14, hf⟩ := o_ls hf
        refine b_iast hx hb hW 0 3 rfl mW_3 (mW_s3 eM14) rfl h11 dX3_row_63 (fun H locs hW => ?_)
        have hW : bW D g A s H locs [mW g adM kM tM M14] := hW
        refine lv_iconst (v := 0) hx hb dX3_row_64 (by decide) ?_
        refine lv_istore (lv' := [(4, .int 0), (0, .ref (adM 0)), (1, .int x1), (2, .int x2), (3, .int x3)]) hx hb dX3_row_65 hl (by decide) rfl (fun ls hl => ?_)
        obtain ⟨stp15, est15, hf⟩ := o_ln hf
        have L15 : ∀ (n : Nat) (v16 : Int32) (M17 : BC) (H : Heap) (locs : List Loc) (ls : Array Slot), bW D g A s H locs [mW g adM kM tM M17] → lv_has ls 5 [(4, .int v16), (0, .ref (adM 0)), (1, .int x1)] → o_lp stp15 n (v16, M17) = some (rO, MO) → W p l e rm_X3_row s m args below meth c H locs 0 0 Q (F0 m 67 ls []) := by
          intro n15
          induction n15 with
          | zero => intro v16 M17 H locs ls hW hl hf; exact (o_lz hf).elim
          | succ n15 ih15 =>
            intro v16 M17 H locs ls hW hl hf
            have hf := o_lu est15 hf
            rw [f_X3_row_L67] at hf
            refine lv_iload hx hb dX3_row_67 (lv_at hl 0 rfl) ?_
            refine lv_bipush (v := 40) hx hb dX3_row_69 (by decide) ?_
            refine lv_icmp_ge (tgt := 90) hx hb dX3_row_71 (by decide) (fun c18 => ?_) (fun c18 => ?_)
            · have hf := o_t hf c18
              refine lv_iconst (v := 1) hx hb dX3_row_90 (by decide) ?_
              cases hf
              exact b_iret hx hb hr hlk hE hW () rfl trivial rfl dX3_row_91
            · have hf := o_f hf c18
              refine lv_aload_n hx hb dX3_row_74 rfl (lv_at hl 1 rfl) ?_
              refine b_get hx hb hts in_X3 hown hW 0 0 3 3 rfl mW_0 rfl (by decide) ⟨rfl, rfl, rfl⟩ (hts _ q1462) mW_g3 dX3_row_75 ?_
              refine lv_iload_n hx hb dX3_row_78 rfl (lv_at hl 2 rfl) ?_
              refine b_agrL hx hb hW 0 4 rfl mW_4 h11 dX3_row_79 ?_
              refine lv_iload hx hb dX3_row_80 (lv_at hl 0 rfl) ?_
              refine lv_lconst (v := 0) hx hb dX3_row_82 (by decide) ?_
              obtain ⟨h19, hf⟩ := o_cs hf
              obtain ⟨M20, eM20, hf⟩ := o_ls hf
              refine b_last hx hb hW 0 (5 + ix x1) rfl (mW_r5 (inB_lt h11)) (mW_rs5 (inB_lt h11) eM20) rfl h19 dX3_row_83 (fun H locs hW => ?_)
              have hW : bW D g A s H locs [mW g adM kM tM M20] := hW
              obtain ⟨v21, ev21, hf⟩ := o_ls hf
              refine lv_iinc (v := v21) (lv' := [(4, .int v21), (0, .ref (adM 0)), (1, .int x1)]) hx hb dX3_row_84 hl (k := 0) rfl ev21 (by decide) rfl (fun ls hl => ?_)
              refine lv_goto (tgt := 67) hx hb dX3_row_87 (by decide) ?_
              exact ih15 _ _ _ _ _ hW (lv_sub hl [0, 1, 2] rfl) hf
        exact L15 _ _ _ _ _ _ hW (lv_sub hl [0, 1, 2] rfl) hf
      · have hf := o_t hf c10
        refine lv_aload_n hx hb dX3_row_36 rfl (lv_at hl 0 rfl) ?_
        refine lv_bipush (v := (-2)) hx hb dX3_row_37 (by decide) ?_
        obtain ⟨r22, M23, hc23, hf⟩ := o_b2s hf
        have hp23 : List.Perm [mW g adM kM tM M] ([mW g adM kM tM M] ++ []) := b_perm [0] [] 1 rfl rfl rfl rfl
        refine b_call0 ⟨rfl, rfl⟩ (va_runV (As := [.int (-2)]) (rest := []) ⟨hx, hb, hml, hown, hts⟩ (m_X3_refuse l D g H.size adM kM tM M (-2) r22 M23 hc23) (cwV 1 hts (lw_V q1572 q1574 qs33 q79 q1575) rfl rfl rfl (by decide +kernel) ⟨Nat.le_of_ble_eq_true rfl, Nat.le_of_ble_eq_true rfl⟩) (b_preV (pp := 0) (q := 0) hW hp23 rfl mW_0 rfl) rfl rfl hl.1 rfl (lv_room (Nat.le_of_ble_eq_true rfl)) dX3_row_39 ⟨Nat.le_of_ble_eq_true rfl, Nat.le_of_ble_eq_true rfl⟩) hW hp23 (fun _ _ H locs hW => ?_)
        have hW : bW D g A s H locs [mW g adM kM tM M23] := hW
        cases hf
        exact b_iret hx hb hr hlk hE hW () rfl trivial rfl dX3_row_42
def f_X3_fit (x1 : Int32) (x2 : Int64) : Option Int64 :=
 (if x1 = 0 then
 some x2.toInt32.toInt8.toInt32.toInt64
 else
 (if x1 = 1 then
 some x2.toInt32.toInt16.toInt32.toInt64
 else
 (if x1 = 2 then
 some x2.toInt32.toInt64
 else
 (if x1 = 3 then
 some x2
 else
 (if (lg_cmp x2 0) = 0 then
 some 0
 else
 some 1)))))
abbrev rm_X3_fit : Room := { frames := 0, cells := 0, slots := 0, locals := 0 }
set_option maxHeartbeats 4000000 in
set_option maxRecDepth 100000 in
theorem m_X3_fit (l : Launch) (D : va_G) (g : Nat → ClassId) (sz : Nat)  (x1 : Int32) (x2 : Int64) (rO : Int64) (hf : f_X3_fit x1 x2 = some rO) : bMet (S := Unit) l yX3_fit (ws_ yX3_fit cX3_fit 3 (some .long)) rm_X3_fit D g sz [.int x1, .long x2] [] (fun _ => True) (fun _ => some (.long rO)) (fun _ => []) := by
  refine b_met (by decide) (Nat.le_of_ble_eq_true rfl) ?_
  intro p e s m args below meth c A Q ls hx hb hml hr hlk hown hname hts hE hl hW
  revert hW; generalize s.heap = H; intro hW
  have hl : lv_has ls 3 [(0, .int x1), (1, .long x2)] := hl
  rw [f_X3_fit] at hf
  refine lv_iload_n hx hb dX3_fit_0 rfl (lv_at hl 0 rfl) ?_
  by_cases c1 : x1 = 0
  · have hf := o_t hf c1
    refine lv_tableIn (off := 31) (tgt := 32) hx hb dX3_fit_1 (by rw [c1]; decide) (by rw [c1]; decide) (by rw [c1]; rfl) (by decide) ?_
    refine lv_lload_n hx hb dX3_fit_32 rfl (lv_at hl 1 rfl) ?_
    refine lv_l2i hx hb dX3_fit_33 rfl ?_
    refine lv_i2b hx hb dX3_fit_34 rfl ?_
    refine lv_i2l hx hb dX3_fit_35 rfl ?_
    cases hf
    exact b_lret hx hb hr hlk hE hW () rfl trivial rfl dX3_fit_36
  · have hf := o_f hf c1
    by_cases c2 : x1 = 1
    · have hf := o_t hf c2
      refine lv_tableIn (off := 36) (tgt := 37) hx hb dX3_fit_1 (by rw [c2]; decide) (by rw [c2]; decide) (by rw [c2]; rfl) (by decide) ?_
      refine lv_lload_n hx hb dX3_fit_37 rfl (lv_at hl 1 rfl) ?_
      refine lv_l2i hx hb dX3_fit_38 rfl ?_
      refine lv_i2s hx hb dX3_fit_39 rfl ?_
      refine lv_i2l hx hb dX3_fit_40 rfl ?_
      cases hf
      exact b_lret hx hb hr hlk hE hW () rfl trivial rfl dX3_fit_41
    · have hf := o_f hf c2
      by_cases c3 : x1 = 2
      · have hf := o_t hf c3
        refine lv_tableIn (off := 41) (tgt := 42) hx hb dX3_fit_1 (by rw [c3]; decide) (by rw [c3]; decide) (by rw [c3]; rfl) (by decide) ?_
        refine lv_lload_n hx hb dX3_fit_42 rfl (lv_at hl 1 rfl) ?_
        refine lv_l2i hx hb dX3_fit_43 rfl ?_
        refine lv_i2l hx hb dX3_fit_44 rfl ?_
        cases hf
        exact b_lret hx hb hr hlk hE hW () rfl trivial rfl dX3_fit_45
      · have hf := o_f hf c3
        by_cases c4 : x1 = 3
        · have hf := o_t hf c4
          refine lv_tableIn (off := 45) (tgt := 46) hx hb dX3_fit_1 (by rw [c4]; decide) (by rw [c4]; decide) (by rw [c4]; rfl) (by decide) ?_
          refine lv_lload_n hx hb dX3_fit_46 rfl (lv_at hl 1 rfl) ?_
          cases hf
          exact b_lret hx hb hr hlk hE hW () rfl trivial rfl dX3_fit_47
        · have hf := o_f hf c4
          refine lv_tableOut (tgt := 48) hx hb dX3_fit_1 (by have := lv_neT c1 (a := 0) (by decide); have := lv_neT c2 (a := 1) (by decide); have := lv_neT c3 (a := 2) (by decide); have := lv_neT c4 (a := 3) (by decide); omega) (by decide) ?_
          refine lv_lload_n hx hb dX3_fit_48 rfl (lv_at hl 1 rfl) ?_
          refine lv_lconst (v := 0) hx hb dX3_fit_49 (by decide) ?_
          refine W.lcmp hx hb dX3_fit_50 ?_
          refine lv_if_eq (tgt := 58) hx hb dX3_fit_51 (by decide) (fun c5 => ?_) (fun c5 => ?_)
          · have hf := o_t hf c5
            refine lv_lconst (v := 0) hx hb dX3_fit_58 (by decide) ?_
            cases hf
            exact b_lret hx hb hr hlk hE hW () rfl trivial rfl dX3_fit_59
          · have hf := o_f hf c5
            refine lv_lconst (v := 1) hx hb dX3_fit_54 (by decide) ?_
            refine lv_goto (tgt := 59) hx hb dX3_fit_55 (by decide) ?_
            cases hf
            exact b_lret hx hb hr hlk hE hW () rfl trivial rfl dX3_fit_59
def f_X3_noRow (M : BC) (x1 : Int32) : Option (Int32 × BC) :=
 o_b1 (f_X3_in x1.toInt64 0 7) fun (r1 : Int32) =>
 (if r1 = 0 then
 o_b2 (f_X3_refuse M (-2)) fun (r10 : Int32) (M11 : BC) =>
 some (r10, M11)
 else
 o_ck (inB x1 8) ((if (M.1 1 (ix x1)) = 2 then
 o_b2 (f_X3_refuse M (-3)) fun (r8 : Int32) (M9 : BC) =>
 some (r8, M9)
 else
 (if (M.1 1 (ix x1)) = 0 then
 o_b2 (f_X3_refuse M (-4)) fun (r6 : Int32) (M7 : BC) =>
 some (r6, M7)
 else
 some (0, M)))))
abbrev rm_X3_noRow : Room := { frames := 1, cells := 0, slots := 0, locals := 25 }
set_option maxHeartbeats 4000000 in
set_option maxRecDepth 100000 in
theorem m_X3_noRow (l : Launch) (D : va_G) (g : Nat → ClassId) (sz : Nat) (adM : Nat → Nat) (kM : Option Nat) (tM : Option Nat) (M : BC) (x1 : Int32) (rO : Int32) (MO : BC) (hf : f_X3_noRow M x1 = some (rO, MO)) : bMet (S := Unit) l yX3_noRow (ws_ yX3_noRow cX3_noRow 2 (some .int)) rm_X3_noRow D g sz [.ref (adM 0), .int x1] [mW g adM kM tM M] (fun _ => True) (fun _ => some (.int rO)) (fun _ => [mW g adM kM tM MO]) := by
  refine b_met (by decide) (Nat.le_of_ble_eq_true rfl) ?_
  intro p e s m args below meth c A Q ls hx hb hml hr hlk hown hname hts hE hl hW
  revert hW; generalize s.heap = H; intro hW
  have hl : lv_has ls 2 [(0, .ref (adM 0)), (1, .int x1)] := hl
  rw [f_X3_noRow] at hf
  refine lv_iload_n hx hb dX3_noRow_0 rfl (lv_at hl 1 rfl) ?_
  refine lv_i2l hx hb dX3_noRow_1 rfl ?_
  refine lv_lconst (v := 0) hx hb dX3_noRow_2 (by decide) ?_
  refine lv_ldc2 (v := 7) hx hb hown (hts _ q1566) dX3_noRow_3 ?_
  obtain ⟨r1, hc1, hf⟩ := o_b1s hf
  have hp1 : List.Perm [mW g adM kM tM M] ([] ++ [mW g adM kM tM M]) := b_perm [] [0] 1 rfl rfl rfl rfl
  refine b_call0 ⟨rfl, rfl⟩ (va_runS (As := [.long x1.toInt64, .long 0, .long 7]) (rest := []) ⟨hx, hb, hml, hown, hts⟩ (m_X3_in l D g H.size x1.toInt64 0 7 r1 hc1) (va_cwS 3 hts (lw_S q1567 q1568 q79 q1569) rfl rfl rfl (by decide +kernel) ⟨Nat.le_of_ble_eq_true rfl, Nat.le_of_ble_eq_true rfl⟩) (b_preS hW hp1) rfl rfl hl.1 rfl (lv_room (Nat.le_of_ble_eq_true rfl)) dX3_noRow_6 ⟨Nat.le_of_ble_eq_true rfl, Nat.le_of_ble_eq_true rfl⟩) hW hp1 (fun _ _ H locs hW => ?_)
  have hW : bW D g A s H locs [mW g adM kM tM M] := hW
  refine lv_if_ne (tgt := 19) hx hb dX3_noRow_9 (by decide) (fun c2 => ?_) (fun c2 => ?_)
  · have hf := o_f hf c2
    refine lv_aload_n hx hb dX3_noRow_19 rfl (lv_at hl 0 rfl) ?_
    refine b_get hx hb hts in_X3 hown hW 0 0 3 0 rfl mW_0 rfl (by decide) ⟨rfl, rfl, rfl⟩ (hts _ q1459) mW_g0 dX3_noRow_20 ?_
    refine lv_iload_n hx hb dX3_noRow_23 rfl (lv_at hl 1 rfl) ?_
    obtain ⟨h3, hf⟩ := o_cs hf
    refine b_iald hx hb hW 0 1 rfl mW_1 h3 dX3_noRow_24 ?_
    refine lv_iconst (v := 2) hx hb dX3_noRow_25 (by decide) ?_
    refine lv_icmp_ne (tgt := 36) hx hb dX3_noRow_26 (by decide) (fun c4 => ?_) (fun c4 => ?_)
    · have hf := o_f hf c4
      refine lv_aload_n hx hb dX3_noRow_36 rfl (lv_at hl 0 rfl) ?_
      refine b_get hx hb hts in_X3 hown hW 0 0 3 0 rfl mW_0 rfl (by decide) ⟨rfl, rfl, rfl⟩ (hts _ q1459) mW_g0 dX3_noRow_37 ?_
      refine lv_iload_n hx hb dX3_noRow_40 rfl (lv_at hl 1 rfl) ?_
      refine b_iald hx hb hW 0 1 rfl mW_1 h3 dX3_noRow_41 ?_
      refine lv_if_ne (tgt := 54) hx hb dX3_noRow_42 (by decide) (fun c5 => ?_) (fun c5 => ?_)
      · have hf := o_f hf c5
        refine lv_iconst (v := 0) hx hb dX3_noRow_54 (by decide) ?_
        cases hf
        exact b_iret hx hb hr hlk hE hW () rfl trivial rfl dX3_noRow_55
      · have hf := o_t hf c5
        refine lv_aload_n hx hb dX3_noRow_45 rfl (lv_at hl 0 rfl) ?_
        refine lv_bipush (v := (-4)) hx hb dX3_noRow_46 (by decide) ?_
        obtain ⟨r6, M7, hc7, hf⟩ := o_b2s hf
        have hp7 : List.Perm [mW g adM kM tM M] ([mW g adM kM tM M] ++ []) := b_perm [0] [] 1 rfl rfl rfl rfl
        refine b_call0 ⟨rfl, rfl⟩ (va_runV (As := [.int (-4)]) (rest := []) ⟨hx, hb, hml, hown, hts⟩ (m_X3_refuse l D g H.size adM kM tM M (-4) r6 M7 hc7) (cwV 1 hts (lw_V q1572 q1574 qs33 q79 q1575) rfl rfl rfl (by decide +kernel) ⟨Nat.le_of_ble_eq_true rfl, Nat.le_of_ble_eq_true rfl⟩) (b_preV (pp := 0) (q := 0) hW hp7 rfl mW_0 rfl) rfl rfl hl.1 rfl (lv_room (Nat.le_of_ble_eq_true rfl)) dX3_noRow_48 ⟨Nat.le_of_ble_eq_true rfl, Nat.le_of_ble_eq_true rfl⟩) hW hp7 (fun _ _ H locs hW => ?_)
        have hW : bW D g A s H locs [mW g adM kM tM M7] := hW
        refine lv_goto (tgt := 55) hx hb dX3_noRow_51 (by decide) ?_
        cases hf
        exact b_iret hx hb hr hlk hE hW () rfl trivial rfl dX3_noRow_55
    · have hf := o_t hf c4
      refine lv_aload_n hx hb dX3_noRow_29 rfl (lv_at hl 0 rfl) ?_
      refine lv_bipush (v := (-3)) hx hb dX3_noRow_30 (by decide) ?_
      obtain ⟨r8, M9, hc9, hf⟩ := o_b2s hf
      have hp9 : List.Perm [mW g adM kM tM M] ([mW g adM kM tM M] ++ []) := b_perm [0] [] 1 rfl rfl rfl rfl
      refine b_call0 ⟨rfl, rfl⟩ (va_runV (As := [.int (-3)]) (rest := []) ⟨hx, hb, hml, hown, hts⟩ (m_X3_refuse l D g H.size adM kM tM M (-3) r8 M9 hc9) (cwV 1 hts (lw_V q1572 q1574 qs33 q79 q1575) rfl rfl rfl (by decide +kernel) ⟨Nat.le_of_ble_eq_true rfl, Nat.le_of_ble_eq_true rfl⟩) (b_preV (pp := 0) (q := 0) hW hp9 rfl mW_0 rfl) rfl rfl hl.1 rfl (lv_room (Nat.le_of_ble_eq_true rfl)) dX3_noRow_32 ⟨Nat.le_of_ble_eq_true rfl, Nat.le_of_ble_eq_true rfl⟩) hW hp9 (fun _ _ H locs hW => ?_)
      have hW : bW D g A s H locs [mW g adM kM tM M9] := hW
      cases hf
      exact b_iret hx hb hr hlk hE hW () rfl trivial rfl dX3_noRow_35
  · have hf := o_t hf c2
    refine lv_aload_n hx hb dX3_noRow_12 rfl (lv_at hl 0 rfl) ?_
    refine lv_bipush (v := (-2)) hx hb dX3_noRow_13 (by decide) ?_
    obtain ⟨r10, M11, hc11, hf⟩ := o_b2s hf
    have hp11 : List.Perm [mW g adM kM tM M] ([mW g adM kM tM M] ++ []) := b_perm [0] [] 1 rfl rfl rfl rfl
    refine b_call0 ⟨rfl, rfl⟩ (va_runV (As := [.int (-2)]) (rest := []) ⟨hx, hb, hml, hown, hts⟩ (m_X3_refuse l D g H.size adM kM tM M (-2) r10 M11 hc11) (cwV 1 hts (lw_V q1572 q1574 qs33 q79 q1575) rfl rfl rfl (by decide +kernel) ⟨Nat.le_of_ble_eq_true rfl, Nat.le_of_ble_eq_true rfl⟩) (b_preV (pp := 0) (q := 0) hW hp11 rfl mW_0 rfl) rfl rfl hl.1 rfl (lv_room (Nat.le_of_ble_eq_true rfl)) dX3_noRow_15 ⟨Nat.le_of_ble_eq_true rfl, Nat.le_of_ble_eq_true rfl⟩) hW hp11 (fun _ _ H locs hW => ?_)
    have hW : bW D g A s H locs [mW g adM kM tM M11] := hW
    cases hf
    exact b_iret hx hb hr hlk hE hW () rfl trivial rfl dX3_noRow_18
def f_X3_set (M : BC) (x1 : Int32) (x2 : Int32) (x3 : Int64) : Option (Int32 × BC) :=
 o_b2 (f_X3_noRow M x1) fun (r1 : Int32) (M2 : BC) =>
 (if r1 = 0 then
 o_ck (inB x1 8) (o_b1 (f_X3_in x2.toInt64 0 (((M2.1 3 (ix x1)) - 1).toInt64)) fun (r5 : Int32) =>
 (if r5 = 0 then
 o_b2 (f_X3_refuse M2 (-2)) fun (r10 : Int32) (M11 : BC) =>
 some (r10, M11)
 else
 o_b1 (f_X3_fit (M2.1 2 (ix x1)) x3) fun (r7 : Int64) =>
 o_ck (inB x2 40) (o_lt (bL M2 (5 + ix x1) (vp_updL (M2.2.2 (5 + ix x1)) (ix x2) r7)) fun (M9 : BC) =>
 some (1, M9))))
 else
 some (r1, M2))
abbrev rm_X3_set : Room := { frames := 2, cells := 0, slots := 0, locals := 46 }
set_option maxHeartbeats 4000000 in
set_option maxRecDepth 100000 in
theorem m_X3_set (l : Launch) (D : va_G) (g : Nat → ClassId) (sz : Nat) (adM : Nat → Nat) (kM : Option Nat) (tM : Option Nat) (M : BC) (x1 : Int32) (x2 : Int32) (x3 : Int64) (rO : Int32) (MO : BC) (hf : f_X3_set M x1 x2 x3 = some (rO, MO)) : bMet (S := Unit) l yX3_set (ws_ yX3_set cX3_set 6 (some .int)) rm_X3_set D g sz [.ref (adM 0), .int x1, .int x2, .long x3] [mW g adM kM tM M] (fun _ => True) (fun _ => some (.int rO)) (fun _ => [mW g adM kM tM MO]) := by
  refine b_met (by decide) (Nat.le_of_ble_eq_true rfl) ?_
  intro p e s m args below meth c A Q ls hx hb hml hr hlk hown hname hts hE hl hW
  revert hW; generalize s.heap = H; intro hW
  have hl : lv_has ls 6 [(0, .ref (adM 0)), (1, .int x1), (2, .int x2), (3, .long x3)] := hl
  rw [f_X3_set] at hf
  refine lv_aload_n hx hb dX3_set_0 rfl (lv_at hl 0 rfl) ?_
  refine lv_iload_n hx hb dX3_set_1 rfl (lv_at hl 1 rfl) ?_
  obtain ⟨r1, M2, hc2, hf⟩ := o_b2s hf
  have hp2 : List.Perm [mW g adM kM tM M] ([mW g adM kM tM M] ++ []) := b_perm [0] [] 1 rfl rfl rfl rfl
  refine b_call0 ⟨rfl, rfl⟩ (va_runV (As := [.int x1]) (rest := []) ⟨hx, hb, hml, hown, hts⟩ (m_X3_noRow l D g H.size adM kM tM M x1 r1 M2 hc2) (cwV 1 hts (lw_V q1580 q1582 qs34 q79 q1583) rfl rfl rfl (by decide +kernel) ⟨Nat.le_of_ble_eq_true rfl, Nat.le_of_ble_eq_true rfl⟩) (b_preV (pp := 0) (q := 0) hW hp2 rfl mW_0 rfl) rfl rfl hl.1 rfl (lv_room (Nat.le_of_ble_eq_true rfl)) dX3_set_2 ⟨Nat.le_of_ble_eq_true rfl, Nat.le_of_ble_eq_true rfl⟩) hW hp2 (fun _ _ H locs hW => ?_)
  have hW : bW D g A s H locs [mW g adM kM tM M2] := hW
  refine lv_istore (lv' := [(5, .int r1), (0, .ref (adM 0)), (1, .int x1), (2, .int x2), (3, .long x3)]) hx hb dX3_set_5 hl (by decide) rfl (fun ls hl => ?_)
  refine lv_iload hx hb dX3_set_7 (lv_at hl 0 rfl) ?_
  refine lv_if_eq (tgt := 15) hx hb dX3_set_9 (by decide) (fun c3 => ?_) (fun c3 => ?_)
  · have hf := o_t hf c3
    refine lv_iload_n hx hb dX3_set_15 rfl (lv_at hl 3 rfl) ?_
    refine lv_i2l hx hb dX3_set_16 rfl ?_
    refine lv_lconst (v := 0) hx hb dX3_set_17 (by decide) ?_
    refine lv_aload_n hx hb dX3_set_18 rfl (lv_at hl 1 rfl) ?_
    refine b_get hx hb hts in_X3 hown hW 0 0 3 2 rfl mW_0 rfl (by decide) ⟨rfl, rfl, rfl⟩ (hts _ q1461) mW_g2 dX3_set_19 ?_
    refine lv_iload_n hx hb dX3_set_22 rfl (lv_at hl 2 rfl) ?_
    obtain ⟨h4, hf⟩ := o_cs hf
    refine b_iald hx hb hW 0 3 rfl mW_3 h4 dX3_set_23 ?_
    refine lv_iconst (v := 1) hx hb dX3_set_24 (by decide) ?_
    refine lv_isub hx hb dX3_set_25 ?_
    refine lv_i2l hx hb dX3_set_26 rfl ?_
    obtain ⟨r5, hc5, hf⟩ := o_b1s hf
    have hp5 : List.Perm [mW g adM kM tM M2] ([] ++ [mW g adM kM tM M2]) := b_perm [] [0] 1 rfl rfl rfl rfl
    refine b_call0 ⟨rfl, rfl⟩ (va_runS (As := [.long x2.toInt64, .long 0, .long (((M2.1 3 (ix x1)) - 1).toInt64)]) (rest := []) ⟨hx, hb, hml, hown, hts⟩ (m_X3_in l D g H.size x2.toInt64 0 (((M2.1 3 (ix x1)) - 1).toInt64) r5 hc5) (va_cwS 3 hts (lw_S q1567 q1568 q79 q1569) rfl rfl rfl (by decide +kernel) ⟨Nat.le_of_ble_eq_true rfl, Nat.le_of_ble_eq_true rfl⟩) (b_preS hW hp5) rfl rfl hl.1 rfl (lv_room (Nat.le_of_ble_eq_true rfl)) dX3_set_27 ⟨Nat.le_of_ble_eq_true rfl, Nat.le_of_ble_eq_true rfl⟩) hW hp5 (fun _ _ H locs hW => ?_)
    have hW : bW D g A s H locs [mW g adM kM tM M2] := hW
    refine lv_if_ne (tgt := 40) hx hb dX3_set_30 (by decide) (fun c6 => ?_) (fun c6 => ?_)
    · have hf := o_f hf c6
      refine lv_aload_n hx hb dX3_set_40 rfl (lv_at hl 1 rfl) ?_
      refine b_get hx hb hts in_X3 hown hW 0 0 3 3 rfl mW_0 rfl (by decide) ⟨rfl, rfl, rfl⟩ (hts _ q1462) mW_g3 dX3_set_41 ?_
      refine lv_iload_n hx hb dX3_set_44 rfl (lv_at hl 2 rfl) ?_
      refine b_agrL hx hb hW 0 4 rfl mW_4 h4 dX3_set_45 ?_
      refine lv_iload_n hx hb dX3_set_46 rfl (lv_at hl 3 rfl) ?_
      refine lv_aload_n hx hb dX3_set_47 rfl (lv_at hl 1 rfl) ?_
      refine b_get hx hb hts in_X3 hown hW 0 0 3 1 rfl mW_0 rfl (by decide) ⟨rfl, rfl, rfl⟩ (hts _ q1460) mW_g1 dX3_set_48 ?_
      refine lv_iload_n hx hb dX3_set_51 rfl (lv_at hl 2 rfl) ?_
      refine b_iald hx hb hW 0 2 rfl mW_2 h4 dX3_set_52 ?_
      refine lv_lload_n hx hb dX3_set_53 rfl (lv_at hl 4 rfl) ?_
      obtain ⟨r7, hc7, hf⟩ := o_b1s hf
      have hp7 : List.Perm [mW g adM kM tM M2] ([] ++ [mW g adM kM tM M2]) := b_perm [] [0] 1 rfl rfl rfl rfl
      refine b_call0 ⟨rfl, rfl⟩ (va_runS (As := [.int (M2.1 2 (ix x1)), .long x3]) (rest := [.int x2, .ref (adM (5 + ix x1))]) ⟨hx, hb, hml, hown, hts⟩ (m_X3_fit l D g H.size (M2.1 2 (ix x1)) x3 r7 hc7) (va_cwS 2 hts (lw_S q1584 q1585 q79 q1586) rfl rfl rfl (by decide +kernel) ⟨Nat.le_of_ble_eq_true rfl, Nat.le_of_ble_eq_true rfl⟩) (b_preS hW hp7) rfl rfl hl.1 rfl (lv_room (Nat.le_of_ble_eq_true rfl)) dX3_set_54 ⟨Nat.le_of_ble_eq_true rfl, Nat.le_of_ble_eq_true rfl⟩) hW hp7 (fun _ _ H locs hW => ?_)
      have hW : bW D g A s H locs [mW g adM kM tM M2] := hW
      obtain ⟨h8, hf⟩ := o_cs hf
      obtain ⟨M9, eM9, hf⟩ := o_ls hf
      refine b_last hx hb hW 0 (5 + ix x1) rfl (mW_r5 (inB_lt h4)) (mW_rs5 (inB_lt h4) eM9) rfl h8 dX3_set_57 (fun H locs hW => ?_)
      have hW : bW D g A s H locs [mW g adM kM tM M9] := hW
      refine lv_iconst (v := 1) hx hb dX3_set_58 (by decide) ?_
      cases hf
      exact b_iret hx hb hr hlk hE hW () rfl trivial rfl dX3_set_59
    · have hf := o_t hf c6
      refine lv_aload_n hx hb dX3_set_33 rfl (lv_at hl 1 rfl) ?_
      refine lv_bipush (v := (-2)) hx hb dX3_set_34 (by decide) ?_
      obtain ⟨r10, M11, hc11, hf⟩ := o_b2s hf
      have hp11 : List.Perm [mW g adM kM tM M2] ([mW g adM kM tM M2] ++ []) := b_perm [0] [] 1 rfl rfl rfl rfl
      refine b_call0 ⟨rfl, rfl⟩ (va_runV (As := [.int (-2)]) (rest := []) ⟨hx, hb, hml, hown, hts⟩ (m_X3_refuse l D g H.size adM kM tM M2 (-2) r10 M11 hc11) (cwV 1 hts (lw_V q1572 q1574 qs33 q79 q1575) rfl rfl rfl (by decide +kernel) ⟨Nat.le_of_ble_eq_true rfl, Nat.le_of_ble_eq_true rfl⟩) (b_preV (pp := 0) (q := 0) hW hp11 rfl mW_0 rfl) rfl rfl hl.1 rfl (lv_room (Nat.le_of_ble_eq_true rfl)) dX3_set_36 ⟨Nat.le_of_ble_eq_true rfl, Nat.le_of_ble_eq_true rfl⟩) hW hp11 (fun _ _ H locs hW => ?_)
      have hW : bW D g A s H locs [mW g adM kM tM M11] := hW
      cases hf
      exact b_iret hx hb hr hlk hE hW () rfl trivial rfl dX3_set_39
  · have hf := o_f hf c3
    refine lv_iload hx hb dX3_set_12 (lv_at hl 0 rfl) ?_
    cases hf
    exact b_iret hx hb hr hlk hE hW () rfl trivial rfl dX3_set_14
def f_X3_copy_L225 (x2 : Int32) (x4 : Int32) (x5 : Int32) (rec43 : (Int32 × BC) → Option (Int32 × BC)) : Int32 × BC → Option (Int32 × BC)
  | (v44, M45) =>
    (if x5 ≤ v44 then
     some (x5, M45)
     else
     o_ck (inB v44 40) (o_lt (M45.2.2 13 (ix v44)) fun (v48 : Int64) =>
     o_ck (inB (x4 + v44) 40) (o_lt (bL M45 (5 + ix x2) (vp_updL (M45.2.2 (5 + ix x2)) (ix (x4 + v44)) v48)) fun (M50 : BC) =>
     o_lt (v44 + 1) fun (v51 : Int32) =>
     rec43 (v51, M50))))
def f_X3_copy_L191 (x1 : Int32) (x2 : Int32) (x3 : Int32) (x4 : Int32) (x5 : Int32) (fu : Nat) (rec39 : (Int32 × BC) → Option (Int32 × BC)) : Int32 × BC → Option (Int32 × BC)
  | (v40, M41) =>
    (if x5 ≤ v40 then
     o_lp (f_X3_copy_L225 x2 x4 x5) fu (0, M41)
     else
     o_ck (inB (x3 + v40) 40) (o_lt (M41.2.2 (5 + ix x1) (ix (x3 + v40))) fun (v53 : Int64) =>
     o_ck (inB v40 40) (o_lt (bL M41 13 (vp_updL (M41.2.2 13) (ix v40) v53)) fun (M55 : BC) =>
     o_lt (v40 + 1) fun (v56 : Int32) =>
     rec39 (v56, M55))))
def f_X3_copy_L225_89 (x2 : Int32) (x4 : Int32) (x5 : Int32) (rec89 : (Int32 × BC) → Option (Int32 × BC)) : Int32 × BC → Option (Int32 × BC)
  | (v90, M91) =>
    (if x5 ≤ v90 then
     some (x5, M91)
     else
     o_ck (inB v90 40) (o_lt (M91.2.2 13 (ix v90)) fun (v94 : Int64) =>
     o_ck (inB (x4 + v90) 40) (o_lt (bL M91 (5 + ix x2) (vp_updL (M91.2.2 (5 + ix x2)) (ix (x4 + v90)) v94)) fun (M96 : BC) =>
     o_lt (v90 + 1) fun (v97 : Int32) =>
     rec89 (v97, M96))))
def f_X3_copy_L191_85 (x1 : Int32) (x2 : Int32) (x3 : Int32) (x4 : Int32) (x5 : Int32) (fu : Nat) (rec85 : (Int32 × BC) → Option (Int32 × BC)) : Int32 × BC → Option (Int32 × BC)
  | (v86, M87) =>
    (if x5 ≤ v86 then
     o_lp (f_X3_copy_L225_89 x2 x4 x5) fu (0, M87)
     else
     o_ck (inB (x3 + v86) 40) (o_lt (M87.2.2 (5 + ix x1) (ix (x3 + v86))) fun (v99 : Int64) =>
     o_ck (inB v86 40) (o_lt (bL M87 13 (vp_updL (M87.2.2 13) (ix v86) v99)) fun (M101 : BC) =>
     o_lt (v86 + 1) fun (v102 : Int32) =>
     rec85 (v102, M101))))
def f_X3_copy_L225_135 (x2 : Int32) (x4 : Int32) (x5 : Int32) (rec135 : (Int32 × BC) → Option (Int32 × BC)) : Int32 × BC → Option (Int32 × BC)
  | (v136, M137) =>
    (if x5 ≤ v136 then
     some (x5, M137)
     else
     o_ck (inB v136 40) (o_lt (M137.2.2 13 (ix v136)) fun (v140 : Int64) =>
     o_ck (inB (x4 + v136) 40) (o_lt (bL M137 (5 + ix x2) (vp_updL (M137.2.2 (5 + ix x2)) (ix (x4 + v136)) v140)) fun (M142 : BC) =>
     o_lt (v136 + 1) fun (v143 : Int32) =>
     rec135 (v143, M142))))
def f_X3_copy_L191_131 (x1 : Int32) (x2 : Int32) (x3 : Int32) (x4 : Int32) (x5 : Int32) (fu : Nat) (rec131 : (Int32 × BC) → Option (Int32 × BC)) : Int32 × BC → Option (Int32 × BC)
  | (v132, M133) =>
    (if x5 ≤ v132 then
     o_lp (f_X3_copy_L225_135 x2 x4 x5) fu (0, M133)
     else
     o_ck (inB (x3 + v132) 40) (o_lt (M133.2.2 (5 + ix x1) (ix (x3 + v132))) fun (v145 : Int64) =>
     o_ck (inB v132 40) (o_lt (bL M133 13 (vp_updL (M133.2.2 13) (ix v132) v145)) fun (M147 : BC) =>
     o_lt (v132 + 1) fun (v148 : Int32) =>
     rec131 (v148, M147))))
def f_X3_copy (fu : Nat) (M : BC) (x1 : Int32) (x2 : Int32) (x3 : Int32) (x4 : Int32) (x5 : Int32) : Option (Int32 × BC) :=
 o_b1 (f_X3_in x1.toInt64 0 7) fun (r1 : Int32) =>
 (if r1 = 0 then
 o_b2 (f_X3_refuse M (-2)) fun (r3 : Int32) (M4 : BC) =>
 some (r3, M4)
 else
 o_b1 (f_X3_in x2.toInt64 0 7) fun (r5 : Int32) =>
 (if r5 = 0 then
 o_b2 (f_X3_refuse M (-2)) fun (r155 : Int32) (M156 : BC) =>
 some (r155, M156)
 else
 o_ck (inB x1 8) ((if (M.1 1 (ix x1)) = 2 then
 o_b2 (f_X3_refuse M (-3)) fun (r9 : Int32) (M10 : BC) =>
 some (r9, M10)
 else
 o_ck (inB x2 8) ((if (M.1 1 (ix x2)) = 2 then
 o_b2 (f_X3_refuse M (-3)) fun (r13 : Int32) (M14 : BC) =>
 some (r13, M14)
 else
 (if (M.1 1 (ix x1)) = 1 then
 (if (M.1 1 (ix x2)) = 1 then
 (if (M.1 2 (ix x1)) = (M.1 2 (ix x2)) then
 (if (M.1 1 (ix x1)) = 0 then
 o_b2 (f_X3_refuse M (-4)) fun (r109 : Int32) (M110 : BC) =>
 some (r109, M110)
 else
 (if (M.1 1 (ix x2)) = 0 then
 o_b2 (f_X3_refuse M (-4)) fun (r151 : Int32) (M152 : BC) =>
 some (r151, M152)
 else
 (if x5 < 0 then
 o_b2 (f_X3_refuse M (-2)) fun (r113 : Int32) (M114 : BC) =>
 some (r113, M114)
 else
 (if x3 < 0 then
 o_b2 (f_X3_refuse M (-2)) fun (r116 : Int32) (M117 : BC) =>
 some (r116, M117)
 else
 (if x4 < 0 then
 o_b2 (f_X3_refuse M (-2)) fun (r119 : Int32) (M120 : BC) =>
 some (r119, M120)
 else
 (if (M.1 3 (ix x1)) < x5 then
 o_b2 (f_X3_refuse M (-2)) fun (r122 : Int32) (M123 : BC) =>
 some (r122, M123)
 else
 (if (M.1 3 (ix x2)) < x5 then
 o_b2 (f_X3_refuse M (-2)) fun (r125 : Int32) (M126 : BC) =>
 some (r125, M126)
 else
 (if ((M.1 3 (ix x1)) - x5) < x3 then
 o_b2 (f_X3_refuse M (-2)) fun (r128 : Int32) (M129 : BC) =>
 some (r128, M129)
 else
 (if x4 ≤ ((M.1 3 (ix x2)) - x5) then
 o_lp (f_X3_copy_L191_131 x1 x2 x3 x4 x5 fu) fu (0, M)
 else
 o_b2 (f_X3_refuse M (-2)) fun (r149 : Int32) (M150 : BC) =>
 some (r149, M150))))))))))
 else
 o_b2 (f_X3_refuse M (-3)) fun (r153 : Int32) (M154 : BC) =>
 some (r153, M154))
 else
 (if (M.1 1 (ix x1)) = 0 then
 o_b2 (f_X3_refuse M (-4)) fun (r63 : Int32) (M64 : BC) =>
 some (r63, M64)
 else
 (if (M.1 1 (ix x2)) = 0 then
 o_b2 (f_X3_refuse M (-4)) fun (r105 : Int32) (M106 : BC) =>
 some (r105, M106)
 else
 (if x5 < 0 then
 o_b2 (f_X3_refuse M (-2)) fun (r67 : Int32) (M68 : BC) =>
 some (r67, M68)
 else
 (if x3 < 0 then
 o_b2 (f_X3_refuse M (-2)) fun (r70 : Int32) (M71 : BC) =>
 some (r70, M71)
 else
 (if x4 < 0 then
 o_b2 (f_X3_refuse M (-2)) fun (r73 : Int32) (M74 : BC) =>
 some (r73, M74)
 else
 (if (M.1 3 (ix x1)) < x5 then
 o_b2 (f_X3_refuse M (-2)) fun (r76 : Int32) (M77 : BC) =>
 some (r76, M77)
 else
 (if (M.1 3 (ix x2)) < x5 then
 o_b2 (f_X3_refuse M (-2)) fun (r79 : Int32) (M80 : BC) =>
 some (r79, M80)
 else
 (if ((M.1 3 (ix x1)) - x5) < x3 then
 o_b2 (f_X3_refuse M (-2)) fun (r82 : Int32) (M83 : BC) =>
 some (r82, M83)
 else
 (if x4 ≤ ((M.1 3 (ix x2)) - x5) then
 o_lp (f_X3_copy_L191_85 x1 x2 x3 x4 x5 fu) fu (0, M)
 else
 o_b2 (f_X3_refuse M (-2)) fun (r103 : Int32) (M104 : BC) =>
 some (r103, M104)))))))))))
 else
 (if (M.1 1 (ix x1)) = 0 then
 o_b2 (f_X3_refuse M (-4)) fun (r17 : Int32) (M18 : BC) =>
 some (r17, M18)
 else
 (if (M.1 1 (ix x2)) = 0 then
 o_b2 (f_X3_refuse M (-4)) fun (r59 : Int32) (M60 : BC) =>
 some (r59, M60)
 else
 (if x5 < 0 then
 o_b2 (f_X3_refuse M (-2)) fun (r21 : Int32) (M22 : BC) =>
 some (r21, M22)
 else
 (if x3 < 0 then
 o_b2 (f_X3_refuse M (-2)) fun (r24 : Int32) (M25 : BC) =>
 some (r24, M25)
 else
 (if x4 < 0 then
 o_b2 (f_X3_refuse M (-2)) fun (r27 : Int32) (M28 : BC) =>
 some (r27, M28)
 else
 (if (M.1 3 (ix x1)) < x5 then
 o_b2 (f_X3_refuse M (-2)) fun (r30 : Int32) (M31 : BC) =>
 some (r30, M31)
 else
 (if (M.1 3 (ix x2)) < x5 then
 o_b2 (f_X3_refuse M (-2)) fun (r33 : Int32) (M34 : BC) =>
 some (r33, M34)
 else
 (if ((M.1 3 (ix x1)) - x5) < x3 then
 o_b2 (f_X3_refuse M (-2)) fun (r36 : Int32) (M37 : BC) =>
 some (r36, M37)
 else
 (if x4 ≤ ((M.1 3 (ix x2)) - x5) then
 o_lp (f_X3_copy_L191 x1 x2 x3 x4 x5 fu) fu (0, M)
 else
 o_b2 (f_X3_refuse M (-2)) fun (r57 : Int32) (M58 : BC) =>
 some (r57, M58)))))))))))))))))
abbrev rm_X3_copy : Room := { frames := 1, cells := 0, slots := 0, locals := 25 }
set_option maxHeartbeats 4000000 in
set_option maxRecDepth 100000 in
theorem m_X3_copy (l : Launch) (D : va_G) (g : Nat → ClassId) (sz : Nat) (adM : Nat → Nat) (kM : Option Nat) (tM : Option Nat) (fu : Nat) (M : BC) (x1 : Int32) (x2 : Int32) (x3 : Int32) (x4 : Int32) (x5 : Int32) (rO : Int32) (MO : BC) (hf : f_X3_copy fu M x1 x2 x3 x4 x5 = some (rO, MO)) : bMet (S := Unit) l yX3_copy (ws_ yX3_copy cX3_copy 7 (some .int)) rm_X3_copy D g sz [.ref (adM 0), .int x1, .int x2, .int x3, .int x4, .int x5] [mW g adM kM tM M] (fun _ => True) (fun _ => some (.int rO)) (fun _ => [mW g adM kM tM MO]) := by
  refine b_met (by decide) (Nat.le_of_ble_eq_true rfl) ?_
  intro p e s m args below meth c A Q ls hx hb hml hr hlk hown hname hts hE hl hW
  revert hW; generalize s.heap = H; intro hW
  have hl : lv_has ls 7 [(0, .ref (adM 0)), (1, .int x1), (2, .int x2), (3, .int x3), (4, .int x4), (5, .int x5)] := hl
  rw [f_X3_copy] at hf
  refine lv_iload_n hx hb dX3_copy_0 rfl (lv_at hl 1 rfl) ?_
  refine lv_i2l hx hb dX3_copy_1 rfl ?_
  refine lv_lconst (v := 0) hx hb dX3_copy_2 (by decide) ?_
  refine lv_ldc2 (v := 7) hx hb hown (hts _ q1566) dX3_copy_3 ?_
  obtain ⟨r1, hc1, hf⟩ := o_b1s hf
  have hp1 : List.Perm [mW g adM kM tM M] ([] ++ [mW g adM kM tM M]) := b_perm [] [0] 1 rfl rfl rfl rfl
  refine b_call0 ⟨rfl, rfl⟩ (va_runS (As := [.long x1.toInt64, .long 0, .long 7]) (rest := []) ⟨hx, hb, hml, hown, hts⟩ (m_X3_in l D g H.size x1.toInt64 0 7 r1 hc1) (va_cwS 3 hts (lw_S q1567 q1568 q79 q1569) rfl rfl rfl (by decide +kernel) ⟨Nat.le_of_ble_eq_true rfl, Nat.le_of_ble_eq_true rfl⟩) (b_preS hW hp1) rfl rfl hl.1 rfl (lv_room (Nat.le_of_ble_eq_true rfl)) dX3_copy_6 ⟨Nat.le_of_ble_eq_true rfl, Nat.le_of_ble_eq_true rfl⟩) hW hp1 (fun _ _ H locs hW => ?_)
  have hW : bW D g A s H locs [mW g adM kM tM M] := hW
  refine lv_if_eq (tgt := 24) hx hb dX3_copy_9 (by decide) (fun c2 => ?_) (fun c2 => ?_)
  · have hf := o_t hf c2
    refine lv_aload_n hx hb dX3_copy_24 rfl (lv_at hl 0 rfl) ?_
    refine lv_bipush (v := (-2)) hx hb dX3_copy_25 (by decide) ?_
    obtain ⟨r3, M4, hc4, hf⟩ := o_b2s hf
    have hp4 : List.Perm [mW g adM kM tM M] ([mW g adM kM tM M] ++ []) := b_perm [0] [] 1 rfl rfl rfl rfl
    refine b_call0 ⟨rfl, rfl⟩ (va_runV (As := [.int (-2)]) (rest := []) ⟨hx, hb, hml, hown, hts⟩ (m_X3_refuse l D g H.size adM kM tM M (-2) r3 M4 hc4) (cwV 1 hts (lw_V q1572 q1574 qs33 q79 q1575) rfl rfl rfl (by decide +kernel) ⟨Nat.le_of_ble_eq_true rfl, Nat.le_of_ble_eq_true rfl⟩) (b_preV (pp := 0) (q := 0) hW hp4 rfl mW_0 rfl) rfl rfl hl.1 rfl (lv_room (Nat.le_of_ble_eq_true rfl)) dX3_copy_27 ⟨Nat.le_of_ble_eq_true rfl, Nat.le_of_ble_eq_true rfl⟩) hW hp4 (fun _ _ H locs hW => ?_)
    have hW : bW D g A s H locs [mW g adM kM tM M4] := hW
    cases hf
    exact b_iret hx hb hr hlk hE hW () rfl trivial rfl dX3_copy_30
  · have hf := o_f hf c2
    refine lv_iload_n hx hb dX3_copy_12 rfl (lv_at hl 2 rfl) ?_
    refine lv_i2l hx hb dX3_copy_13 rfl ?_
    refine lv_lconst (v := 0) hx hb dX3_copy_14 (by decide) ?_
    refine lv_ldc2 (v := 7) hx hb hown (hts _ q1566) dX3_copy_15 ?_
    obtain ⟨r5, hc5, hf⟩ := o_b1s hf
    have hp5 : List.Perm [mW g adM kM tM M] ([] ++ [mW g adM kM tM M]) := b_perm [] [0] 1 rfl rfl rfl rfl
    refine b_call0 ⟨rfl, rfl⟩ (va_runS (As := [.long x2.toInt64, .long 0, .long 7]) (rest := []) ⟨hx, hb, hml, hown, hts⟩ (m_X3_in l D g H.size x2.toInt64 0 7 r5 hc5) (va_cwS 3 hts (lw_S q1567 q1568 q79 q1569) rfl rfl rfl (by decide +kernel) ⟨Nat.le_of_ble_eq_true rfl, Nat.le_of_ble_eq_true rfl⟩) (b_preS hW hp5) rfl rfl hl.1 rfl (lv_room (Nat.le_of_ble_eq_true rfl)) dX3_copy_18 ⟨Nat.le_of_ble_eq_true rfl, Nat.le_of_ble_eq_true rfl⟩) hW hp5 (fun _ _ H locs hW => ?_)
    have hW : bW D g A s H locs [mW g adM kM tM M] := hW
    refine lv_if_ne (tgt := 31) hx hb dX3_copy_21 (by decide) (fun c6 => ?_) (fun c6 => ?_)
    · have hf := o_f hf c6
      refine lv_aload_n hx hb dX3_copy_31 rfl (lv_at hl 0 rfl) ?_
      refine b_get hx hb hts in_X3 hown hW 0 0 3 0 rfl mW_0 rfl (by decide) ⟨rfl, rfl, rfl⟩ (hts _ q1459) mW_g0 dX3_copy_32 ?_
      refine lv_iload_n hx hb dX3_copy_35 rfl (lv_at hl 1 rfl) ?_
      obtain ⟨h7, hf⟩ := o_cs hf
      refine b_iald hx hb hW 0 1 rfl mW_1 h7 dX3_copy_36 ?_
      refine lv_iconst (v := 2) hx hb dX3_copy_37 (by decide) ?_
      refine lv_icmp_eq (tgt := 86) hx hb dX3_copy_38 (by decide) (fun c8 => ?_) (fun c8 => ?_)
      · have hf := o_t hf c8
        refine lv_aload_n hx hb dX3_copy_86 rfl (lv_at hl 0 rfl) ?_
        refine lv_bipush (v := (-3)) hx hb dX3_copy_87 (by decide) ?_
        obtain ⟨r9, M10, hc10, hf⟩ := o_b2s hf
        have hp10 : List.Perm [mW g adM kM tM M] ([mW g adM kM tM M] ++ []) := b_perm [0] [] 1 rfl rfl rfl rfl
        refine b_call0 ⟨rfl, rfl⟩ (va_runV (As := [.int (-3)]) (rest := []) ⟨hx, hb, hml, hown, hts⟩ (m_X3_refuse l D g H.size adM kM tM M (-3) r9 M10 hc10) (cwV 1 hts (lw_V q1572 q1574 qs33 q79 q1575) rfl rfl rfl (by decide +kernel) ⟨Nat.le_of_ble_eq_true rfl, Nat.le_of_ble_eq_true rfl⟩) (b_preV (pp := 0) (q := 0) hW hp10 rfl mW_0 rfl) rfl rfl hl.1 rfl (lv_room (Nat.le_of_ble_eq_true rfl)) dX3_copy_89 ⟨Nat.le_of_ble_eq_true rfl, Nat.le_of_ble_eq_true rfl⟩) hW hp10 (fun _ _ H locs hW => ?_)
        have hW : bW D g A s H locs [mW g adM kM tM M10] := hW
        cases hf
        exact b_iret hx hb hr hlk hE hW () rfl trivial rfl dX3_copy_92
      · have hf := o_f hf c8
        refine lv_aload_n hx hb dX3_copy_41 rfl (lv_at hl 0 rfl) ?_
        refine b_get hx hb hts in_X3 hown hW 0 0 3 0 rfl mW_0 rfl (by decide) ⟨rfl, rfl, rfl⟩ (hts _ q1459) mW_g0 dX3_copy_42 ?_
        refine lv_iload_n hx hb dX3_copy_45 rfl (lv_at hl 2 rfl) ?_
        obtain ⟨h11, hf⟩ := o_cs hf
        refine b_iald hx hb hW 0 1 rfl mW_1 h11 dX3_copy_46 ?_
        refine lv_iconst (v := 2) hx hb dX3_copy_47 (by decide) ?_
        refine lv_icmp_eq (tgt := 86) hx hb dX3_copy_48 (by decide) (fun c12 => ?_) (fun c12 => ?_)
        · have hf := o_t hf c12
          refine lv_aload_n hx hb dX3_copy_86 rfl (lv_at hl 0 rfl) ?_
          refine lv_bipush (v := (-3)) hx hb dX3_copy_87 (by decide) ?_
          obtain ⟨r13, M14, hc14, hf⟩ := o_b2s hf
          have hp14 : List.Perm [mW g adM kM tM M] ([mW g adM kM tM M] ++ []) := b_perm [0] [] 1 rfl rfl rfl rfl
          refine b_call0 ⟨rfl, rfl⟩ (va_runV (As := [.int (-3)]) (rest := []) ⟨hx, hb, hml, hown, hts⟩ (m_X3_refuse l D g H.size adM kM tM M (-3) r13 M14 hc14) (cwV 1 hts (lw_V q1572 q1574 qs33 q79 q1575) rfl rfl rfl (by decide +kernel) ⟨Nat.le_of_ble_eq_true rfl, Nat.le_of_ble_eq_true rfl⟩) (b_preV (pp := 0) (q := 0) hW hp14 rfl mW_0 rfl) rfl rfl hl.1 rfl (lv_room (Nat.le_of_ble_eq_true rfl)) dX3_copy_89 ⟨Nat.le_of_ble_eq_true rfl, Nat.le_of_ble_eq_true rfl⟩) hW hp14 (fun _ _ H locs hW => ?_)
          have hW : bW D g A s H locs [mW g adM kM tM M14] := hW
          cases hf
          exact b_iret hx hb hr hlk hE hW () rfl trivial rfl dX3_copy_92
        · have hf := o_f hf c12
          refine lv_aload_n hx hb dX3_copy_51 rfl (lv_at hl 0 rfl) ?_
          refine b_get hx hb hts in_X3 hown hW 0 0 3 0 rfl mW_0 rfl (by decide) ⟨rfl, rfl, rfl⟩ (hts _ q1459) mW_g0 dX3_copy_52 ?_
          refine lv_iload_n hx hb dX3_copy_55 rfl (lv_at hl 1 rfl) ?_
          refine b_iald hx hb hW 0 1 rfl mW_1 h7 dX3_copy_56 ?_
          refine lv_iconst (v := 1) hx hb dX3_copy_57 (by decide) ?_
          refine lv_icmp_ne (tgt := 93) hx hb dX3_copy_58 (by decide) (fun c15 => ?_) (fun c15 => ?_)
          · have hf := o_f hf c15
            refine lv_aload_n hx hb dX3_copy_93 rfl (lv_at hl 0 rfl) ?_
            refine b_get hx hb hts in_X3 hown hW 0 0 3 0 rfl mW_0 rfl (by decide) ⟨rfl, rfl, rfl⟩ (hts _ q1459) mW_g0 dX3_copy_94 ?_
            refine lv_iload_n hx hb dX3_copy_97 rfl (lv_at hl 1 rfl) ?_
            refine b_iald hx hb hW 0 1 rfl mW_1 h7 dX3_copy_98 ?_
            refine lv_if_eq (tgt := 111) hx hb dX3_copy_99 (by decide) (fun c16 => ?_) (fun c16 => ?_)
            · have hf := o_t hf c16
              refine lv_aload_n hx hb dX3_copy_111 rfl (lv_at hl 0 rfl) ?_
              refine lv_bipush (v := (-4)) hx hb dX3_copy_112 (by decide) ?_
              obtain ⟨r17, M18, hc18, hf⟩ := o_b2s hf
              have hp18 : List.Perm [mW g adM kM tM M] ([mW g adM kM tM M] ++ []) := b_perm [0] [] 1 rfl rfl rfl rfl
              refine b_call0 ⟨rfl, rfl⟩ (va_runV (As := [.int (-4)]) (rest := []) ⟨hx, hb, hml, hown, hts⟩ (m_X3_refuse l D g H.size adM kM tM M (-4) r17 M18 hc18) (cwV 1 hts (lw_V q1572 q1574 qs33 q79 q1575) rfl rfl rfl (by decide +kernel) ⟨Nat.le_of_ble_eq_true rfl, Nat.le_of_ble_eq_true rfl⟩) (b_preV (pp := 0) (q := 0) hW hp18 rfl mW_0 rfl) rfl rfl hl.1 rfl (lv_room (Nat.le_of_ble_eq_true rfl)) dX3_copy_114 ⟨Nat.le_of_ble_eq_true rfl, Nat.le_of_ble_eq_true rfl⟩) hW hp18 (fun _ _ H locs hW => ?_)
              have hW : bW D g A s H locs [mW g adM kM tM M18] := hW
              cases hf
              exact b_iret hx hb hr hlk hE hW () rfl trivial rfl dX3_copy_117
            · have hf := o_f hf c16
              refine lv_aload_n hx hb dX3_copy_102 rfl (lv_at hl 0 rfl) ?_
              refine b_get hx hb hts in_X3 hown hW 0 0 3 0 rfl mW_0 rfl (by decide) ⟨rfl, rfl, rfl⟩ (hts _ q1459) mW_g0 dX3_copy_103 ?_
              refine lv_iload_n hx hb dX3_copy_106 rfl (lv_at hl 2 rfl) ?_
              refine b_iald hx hb hW 0 1 rfl mW_1 h11 dX3_copy_107 ?_
              refine lv_if_ne (tgt := 118) hx hb dX3_copy_108 (by decide) (fun c19 => ?_) (fun c19 => ?_)
              · have hf := o_f hf c19
                refine lv_iload hx hb dX3_copy_118 (lv_at hl 5 rfl) ?_
                refine lv_if_lt (tgt := 181) hx hb dX3_copy_120 (by decide) (fun c20 => ?_) (fun c20 => ?_)
                · have hf := o_t hf c20
                  refine lv_aload_n hx hb dX3_copy_181 rfl (lv_at hl 0 rfl) ?_
                  refine lv_bipush (v := (-2)) hx hb dX3_copy_182 (by decide) ?_
                  obtain ⟨r21, M22, hc22, hf⟩ := o_b2s hf
                  have hp22 : List.Perm [mW g adM kM tM M] ([mW g adM kM tM M] ++ []) := b_perm [0] [] 1 rfl rfl rfl rfl
                  refine b_call0 ⟨rfl, rfl⟩ (va_runV (As := [.int (-2)]) (rest := []) ⟨hx, hb, hml, hown, hts⟩ (m_X3_refuse l D g H.size adM kM tM M (-2) r21 M22 hc22) (cwV 1 hts (lw_V q1572 q1574 qs33 q79 q1575) rfl rfl rfl (by decide +kernel) ⟨Nat.le_of_ble_eq_true rfl, Nat.le_of_ble_eq_true rfl⟩) (b_preV (pp := 0) (q := 0) hW hp22 rfl mW_0 rfl) rfl rfl hl.1 rfl (lv_room (Nat.le_of_ble_eq_true rfl)) dX3_copy_184 ⟨Nat.le_of_ble_eq_true rfl, Nat.le_of_ble_eq_true rfl⟩) hW hp22 (fun _ _ H locs hW => ?_)
                  have hW : bW D g A s H locs [mW g adM kM tM M22] := hW
                  cases hf
                  exact b_iret hx hb hr hlk hE hW () rfl trivial rfl dX3_copy_187
                · have hf := o_f hf c20
                  refine lv_iload_n hx hb dX3_copy_123 rfl (lv_at hl 3 rfl) ?_
                  refine lv_if_lt (tgt := 181) hx hb dX3_copy_124 (by decide) (fun c23 => ?_) (fun c23 => ?_)
                  · have hf := o_t hf c23
                    refine lv_aload_n hx hb dX3_copy_181 rfl (lv_at hl 0 rfl) ?_
                    refine lv_bipush (v := (-2)) hx hb dX3_copy_182 (by decide) ?_
                    obtain ⟨r24, M25, hc25, hf⟩ := o_b2s hf
                    have hp25 : List.Perm [mW g adM kM tM M] ([mW g adM kM tM M] ++ []) := b_perm [0] [] 1 rfl rfl rfl rfl
                    refine b_call0 ⟨rfl, rfl⟩ (va_runV (As := [.int (-2)]) (rest := []) ⟨hx, hb, hml, hown, hts⟩ (m_X3_refuse l D g H.size adM kM tM M (-2) r24 M25 hc25) (cwV 1 hts (lw_V q1572 q1574 qs33 q79 q1575) rfl rfl rfl (by decide +kernel) ⟨Nat.le_of_ble_eq_true rfl, Nat.le_of_ble_eq_true rfl⟩) (b_preV (pp := 0) (q := 0) hW hp25 rfl mW_0 rfl) rfl rfl hl.1 rfl (lv_room (Nat.le_of_ble_eq_true rfl)) dX3_copy_184 ⟨Nat.le_of_ble_eq_true rfl, Nat.le_of_ble_eq_true rfl⟩) hW hp25 (fun _ _ H locs hW => ?_)
                    have hW : bW D g A s H locs [mW g adM kM tM M25] := hW
                    cases hf
                    exact b_iret hx hb hr hlk hE hW () rfl trivial rfl dX3_copy_187
                  · have hf := o_f hf c23
                    refine lv_iload hx hb dX3_copy_127 (lv_at hl 4 rfl) ?_
                    refine lv_if_lt (tgt := 181) hx hb dX3_copy_129 (by decide) (fun c26 => ?_) (fun c26 => ?_)
                    · have hf := o_t hf c26
                      refine lv_aload_n hx hb dX3_copy_181 rfl (lv_at hl 0 rfl) ?_
                      refine lv_bipush (v := (-2)) hx hb dX3_copy_182 (by decide) ?_
                      obtain ⟨r27, M28, hc28, hf⟩ := o_b2s hf
                      have hp28 : List.Perm [mW g adM kM tM M] ([mW g adM kM tM M] ++ []) := b_perm [0] [] 1 rfl rfl rfl rfl
                      refine b_call0 ⟨rfl, rfl⟩ (va_runV (As := [.int (-2)]) (rest := []) ⟨hx, hb, hml, hown, hts⟩ (m_X3_refuse l D g H.size adM kM tM M (-2) r27 M28 hc28) (cwV 1 hts (lw_V q1572 q1574 qs33 q79 q1575) rfl rfl rfl (by decide +kernel) ⟨Nat.le_of_ble_eq_true rfl, Nat.le_of_ble_eq_true rfl⟩) (b_preV (pp := 0) (q := 0) hW hp28 rfl mW_0 rfl) rfl rfl hl.1 rfl (lv_room (Nat.le_of_ble_eq_true rfl)) dX3_copy_184 ⟨Nat.le_of_ble_eq_true rfl, Nat.le_of_ble_eq_true rfl⟩) hW hp28 (fun _ _ H locs hW => ?_)
                      have hW : bW D g A s H locs [mW g adM kM tM M28] := hW
                      cases hf
                      exact b_iret hx hb hr hlk hE hW () rfl trivial rfl dX3_copy_187
                    · have hf := o_f hf c26
                      refine lv_iload hx hb dX3_copy_132 (lv_at hl 5 rfl) ?_
                      refine lv_aload_n hx hb dX3_copy_134 rfl (lv_at hl 0 rfl) ?_
                      refine b_get hx hb hts in_X3 hown hW 0 0 3 2 rfl mW_0 rfl (by decide) ⟨rfl, rfl, rfl⟩ (hts _ q1461) mW_g2 dX3_copy_135 ?_
                      refine lv_iload_n hx hb dX3_copy_138 rfl (lv_at hl 1 rfl) ?_
                      refine b_iald hx hb hW 0 3 rfl mW_3 h7 dX3_copy_139 ?_
                      refine lv_icmp_gt (tgt := 181) hx hb dX3_copy_140 (by decide) (fun c29 => ?_) (fun c29 => ?_)
                      · have hf := o_t hf c29
                        refine lv_aload_n hx hb dX3_copy_181 rfl (lv_at hl 0 rfl) ?_
                        refine lv_bipush (v := (-2)) hx hb dX3_copy_182 (by decide) ?_
                        obtain ⟨r30, M31, hc31, hf⟩ := o_b2s hf
                        have hp31 : List.Perm [mW g adM kM tM M] ([mW g adM kM tM M] ++ []) := b_perm [0] [] 1 rfl rfl rfl rfl
                        refine b_call0 ⟨rfl, rfl⟩ (va_runV (As := [.int (-2)]) (rest := []) ⟨hx, hb, hml, hown, hts⟩ (m_X3_refuse l D g H.size adM kM tM M (-2) r30 M31 hc31) (cwV 1 hts (lw_V q1572 q1574 qs33 q79 q1575) rfl rfl rfl (by decide +kernel) ⟨Nat.le_of_ble_eq_true rfl, Nat.le_of_ble_eq_true rfl⟩) (b_preV (pp := 0) (q := 0) hW hp31 rfl mW_0 rfl) rfl rfl hl.1 rfl (lv_room (Nat.le_of_ble_eq_true rfl)) dX3_copy_184 ⟨Nat.le_of_ble_eq_true rfl, Nat.le_of_ble_eq_true rfl⟩) hW hp31 (fun _ _ H locs hW => ?_)
                        have hW : bW D g A s H locs [mW g adM kM tM M31] := hW
                        cases hf
                        exact b_iret hx hb hr hlk hE hW () rfl trivial rfl dX3_copy_187
                      · have hf := o_f hf c29
                        refine lv_iload hx hb dX3_copy_143 (lv_at hl 5 rfl) ?_
                        refine lv_aload_n hx hb dX3_copy_145 rfl (lv_at hl 0 rfl) ?_
                        refine b_get hx hb hts in_X3 hown hW 0 0 3 2 rfl mW_0 rfl (by decide) ⟨rfl, rfl, rfl⟩ (hts _ q1461) mW_g2 dX3_copy_146 ?_
                        refine lv_iload_n hx hb dX3_copy_149 rfl (lv_at hl 2 rfl) ?_
                        refine b_iald hx hb hW 0 3 rfl mW_3 h11 dX3_copy_150 ?_
                        refine lv_icmp_gt (tgt := 181) hx hb dX3_copy_151 (by decide) (fun c32 => ?_) (fun c32 => ?_)
                        · have hf := o_t hf c32
                          refine lv_aload_n hx hb dX3_copy_181 rfl (lv_at hl 0 rfl) ?_
                          refine lv_bipush (v := (-2)) hx hb dX3_copy_182 (by decide) ?_
                          obtain ⟨r33, M34, hc34, hf⟩ := o_b2s hf
                          have hp34 : List.Perm [mW g adM kM tM M] ([mW g adM kM tM M] ++ []) := b_perm [0] [] 1 rfl rfl rfl rfl
                          refine b_call0 ⟨rfl, rfl⟩ (va_runV (As := [.int (-2)]) (rest := []) ⟨hx, hb, hml, hown, hts⟩ (m_X3_refuse l D g H.size adM kM tM M (-2) r33 M34 hc34) (cwV 1 hts (lw_V q1572 q1574 qs33 q79 q1575) rfl rfl rfl (by decide +kernel) ⟨Nat.le_of_ble_eq_true rfl, Nat.le_of_ble_eq_true rfl⟩) (b_preV (pp := 0) (q := 0) hW hp34 rfl mW_0 rfl) rfl rfl hl.1 rfl (lv_room (Nat.le_of_ble_eq_true rfl)) dX3_copy_184 ⟨Nat.le_of_ble_eq_true rfl, Nat.le_of_ble_eq_true rfl⟩) hW hp34 (fun _ _ H locs hW => ?_)
                          have hW : bW D g A s H locs [mW g adM kM tM M34] := hW
                          cases hf
                          exact b_iret hx hb hr hlk hE hW () rfl trivial rfl dX3_copy_187
                        · have hf := o_f hf c32
                          refine lv_iload_n hx hb dX3_copy_154 rfl (lv_at hl 3 rfl) ?_
                          refine lv_aload_n hx hb dX3_copy_155 rfl (lv_at hl 0 rfl) ?_
                          refine b_get hx hb hts in_X3 hown hW 0 0 3 2 rfl mW_0 rfl (by decide) ⟨rfl, rfl, rfl⟩ (hts _ q1461) mW_g2 dX3_copy_156 ?_
                          refine lv_iload_n hx hb dX3_copy_159 rfl (lv_at hl 1 rfl) ?_
                          refine b_iald hx hb hW 0 3 rfl mW_3 h7 dX3_copy_160 ?_
                          refine lv_iload hx hb dX3_copy_161 (lv_at hl 5 rfl) ?_
                          refine lv_isub hx hb dX3_copy_163 ?_
                          refine lv_icmp_gt (tgt := 181) hx hb dX3_copy_164 (by decide) (fun c35 => ?_) (fun c35 => ?_)
                          · have hf := o_t hf c35
                            refine lv_aload_n hx hb dX3_copy_181 rfl (lv_at hl 0 rfl) ?_
                            refine lv_bipush (v := (-2)) hx hb dX3_copy_182 (by decide) ?_
                            obtain ⟨r36, M37, hc37, hf⟩ := o_b2s hf
                            have hp37 : List.Perm [mW g adM kM tM M] ([mW g adM kM tM M] ++ []) := b_perm [0] [] 1 rfl rfl rfl rfl
                            refine b_call0 ⟨rfl, rfl⟩ (va_runV (As := [.int (-2)]) (rest := []) ⟨hx, hb, hml, hown, hts⟩ (m_X3_refuse l D g H.size adM kM tM M (-2) r36 M37 hc37) (cwV 1 hts (lw_V q1572 q1574 qs33 q79 q1575) rfl rfl rfl (by decide +kernel) ⟨Nat.le_of_ble_eq_true rfl, Nat.le_of_ble_eq_true rfl⟩) (b_preV (pp := 0) (q := 0) hW hp37 rfl mW_0 rfl) rfl rfl hl.1 rfl (lv_room (Nat.le_of_ble_eq_true rfl)) dX3_copy_184 ⟨Nat.le_of_ble_eq_true rfl, Nat.le_of_ble_eq_true rfl⟩) hW hp37 (fun _ _ H locs hW => ?_)
                            have hW : bW D g A s H locs [mW g adM kM tM M37] := hW
                            cases hf
                            exact b_iret hx hb hr hlk hE hW () rfl trivial rfl dX3_copy_187
                          · have hf := o_f hf c35
                            refine lv_iload hx hb dX3_copy_167 (lv_at hl 4 rfl) ?_
                            refine lv_aload_n hx hb dX3_copy_169 rfl (lv_at hl 0 rfl) ?_
                            refine b_get hx hb hts in_X3 hown hW 0 0 3 2 rfl mW_0 rfl (by decide) ⟨rfl, rfl, rfl⟩ (hts _ q1461) mW_g2 dX3_copy_170 ?_
                            refine lv_iload_n hx hb dX3_copy_173 rfl (lv_at hl 2 rfl) ?_
                            refine b_iald hx hb hW 0 3 rfl mW_3 h11 dX3_copy_174 ?_
                            refine lv_iload hx hb dX3_copy_175 (lv_at hl 5 rfl) ?_
                            refine lv_isub hx hb dX3_copy_177 ?_
                            refine lv_icmp_le (tgt := 188) hx hb dX3_copy_178 (by decide) (fun c38 => ?_) (fun c38 => ?_)
                            · have hf := o_t hf c38
                              refine lv_iconst (v := 0) hx hb dX3_copy_188 (by decide) ?_
                              refine lv_istore (lv' := [(6, .int 0), (0, .ref (adM 0)), (1, .int x1), (2, .int x2), (3, .int x3), (4, .int x4), (5, .int x5)]) hx hb dX3_copy_189 hl (by decide) rfl (fun ls hl => ?_)
                              obtain ⟨stp39, est39, hf⟩ := o_ln hf
                              have L39 : ∀ (n : Nat) (v40 : Int32) (M41 : BC) (H : Heap) (locs : List Loc) (ls : Array Slot), bW D g A s H locs [mW g adM kM tM M41] → lv_has ls 7 [(6, .int v40), (0, .ref (adM 0)), (1, .int x1), (2, .int x2), (3, .int x3), (4, .int x4), (5, .int x5)] → o_lp stp39 n (v40, M41) = some (rO, MO) → W p l e rm_X3_copy s m args below meth c H locs 0 0 Q (F0 m 191 ls []) := by
                                intro n39
                                induction n39 with
                                | zero => intro v40 M41 H locs ls hW hl hf; exact (o_lz hf).elim
                                | succ n39 ih39 =>
                                  intro v40 M41 H locs ls hW hl hf
                                  have hf := o_lu est39 hf
                                  rw [f_X3_copy_L191] at hf
                                  refine lv_iload hx hb dX3_copy_191 (lv_at hl 0 rfl) ?_
                                  refine lv_iload hx hb dX3_copy_193 (lv_at hl 6 rfl) ?_
                                  refine lv_icmp_ge (tgt := 222) hx hb dX3_copy_195 (by decide) (fun c42 => ?_) (fun c42 => ?_)
                                  · have hf := o_t hf c42
                                    refine lv_iconst (v := 0) hx hb dX3_copy_222 (by decide) ?_
                                    refine lv_istore (lv' := [(6, .int 0), (0, .ref (adM 0)), (1, .int x1), (2, .int x2), (3, .int x3), (4, .int x4), (5, .int x5)]) hx hb dX3_copy_223 hl (by decide) rfl (fun ls hl => ?_)
                                    obtain ⟨stp43, est43, hf⟩ := o_ln hf
                                    have L43 : ∀ (n : Nat) (v44 : Int32) (M45 : BC) (H : Heap) (locs : List Loc) (ls : Array Slot), bW D g A s H locs [mW g adM kM tM M45] → lv_has ls 7 [(6, .int v44), (0, .ref (adM 0)), (2, .int x2), (4, .int x4), (5, .int x5)] → o_lp stp43 n (v44, M45) = some (rO, MO) → W p l e rm_X3_copy s m args below meth c H locs 0 0 Q (F0 m 225 ls []) := by
                                      intro n43
                                      induction n43 with
                                      | zero => intro v44 M45 H locs ls hW hl hf; exact (o_lz hf).elim
                                      | succ n43 ih43 =>
                                        intro v44 M45 H locs ls hW hl hf
                                        have hf := o_lu est43 hf
                                        rw [f_X3_copy_L225] at hf
                                        refine lv_iload hx hb dX3_copy_225 (lv_at hl 0 rfl) ?_
                                        refine lv_iload hx hb dX3_copy_227 (lv_at hl 4 rfl) ?_
                                        refine lv_icmp_ge (tgt := 257) hx hb dX3_copy_229 (by decide) (fun c46 => ?_) (fun c46 => ?_)
                                        · have hf := o_t hf c46
                                          refine lv_iload hx hb dX3_copy_257 (lv_at hl 4 rfl) ?_
                                          cases hf
                                          exact b_iret hx hb hr hlk hE hW () rfl trivial rfl dX3_copy_259
                                        · have hf := o_f hf c46
                                          refine lv_aload_n hx hb dX3_copy_232 rfl (lv_at hl 1 rfl) ?_
                                          refine b_get hx hb hts in_X3 hown hW 0 0 3 3 rfl mW_0 rfl (by decide) ⟨rfl, rfl, rfl⟩ (hts _ q1462) mW_g3 dX3_copy_233 ?_
                                          refine lv_iload_n hx hb dX3_copy_236 rfl (lv_at hl 2 rfl) ?_
                                          refine b_agrL hx hb hW 0 4 rfl mW_4 h11 dX3_copy_237 ?_
                                          refine lv_iload hx hb dX3_copy_238 (lv_at hl 3 rfl) ?_
                                          refine lv_iload hx hb dX3_copy_240 (lv_at hl 0 rfl) ?_
                                          refine lv_iadd hx hb dX3_copy_242 ?_
                                          refine lv_aload_n hx hb dX3_copy_243 rfl (lv_at hl 1 rfl) ?_
                                          refine b_get hx hb hts in_X3 hown hW 0 0 3 4 rfl mW_0 rfl (by decide) ⟨rfl, rfl, rfl⟩ (hts _ q1463) mW_g4 dX3_copy_244 ?_
                                          refine lv_iload hx hb dX3_copy_247 (lv_at hl 0 rfl) ?_
                                          obtain ⟨h47, hf⟩ := o_cs hf
                                          refine b_lald hx hb hW 0 13 rfl mW_13 h47 dX3_copy_249 ?_
                                          obtain ⟨v48, ev48, hf⟩ := o_ls hf
                                          refine b_topl ev48 ?_
                                          obtain ⟨h49, hf⟩ := o_cs hf
                                          obtain ⟨M50, eM50, hf⟩ := o_ls hf
                                          refine b_last hx hb hW 0 (5 + ix x2) rfl (mW_r5 (inB_lt h11)) (mW_rs5 (inB_lt h11) eM50) rfl h49 dX3_copy_250 (fun H locs hW => ?_)
                                          have hW : bW D g A s H locs [mW g adM kM tM M50] := hW
                                          obtain ⟨v51, ev51, hf⟩ := o_ls hf
                                          refine lv_iinc (v := v51) (lv' := [(6, .int v51), (0, .ref (adM 0)), (2, .int x2), (4, .int x4), (5, .int x5)]) hx hb dX3_copy_251 hl (k := 0) rfl ev51 (by decide) rfl (fun ls hl => ?_)
                                          refine lv_goto (tgt := 225) hx hb dX3_copy_254 (by decide) ?_
                                          exact ih43 _ _ _ _ _ hW (lv_sub hl [0, 1, 2, 3, 4] rfl) hf
                                    exact L43 _ _ _ _ _ _ hW (lv_sub hl [0, 1, 3, 5, 6] rfl) hf
                                  · have hf := o_f hf c42
                                    refine lv_aload_n hx hb dX3_copy_198 rfl (lv_at hl 1 rfl) ?_
                                    refine b_get hx hb hts in_X3 hown hW 0 0 3 4 rfl mW_0 rfl (by decide) ⟨rfl, rfl, rfl⟩ (hts _ q1463) mW_g4 dX3_copy_199 ?_
                                    refine lv_iload hx hb dX3_copy_202 (lv_at hl 0 rfl) ?_
                                    refine lv_aload_n hx hb dX3_copy_204 rfl (lv_at hl 1 rfl) ?_
                                    refine b_get hx hb hts in_X3 hown hW 0 0 3 3 rfl mW_0 rfl (by decide) ⟨rfl, rfl, rfl⟩ (hts _ q1462) mW_g3 dX3_copy_205 ?_
                                    refine lv_iload_n hx hb dX3_copy_208 rfl (lv_at hl 2 rfl) ?_
                                    refine b_agrL hx hb hW 0 4 rfl mW_4 h7 dX3_copy_209 ?_
                                    refine lv_iload_n hx hb dX3_copy_210 rfl (lv_at hl 4 rfl) ?_
                                    refine lv_iload hx hb dX3_copy_211 (lv_at hl 0 rfl) ?_
                                    refine lv_iadd hx hb dX3_copy_213 ?_
                                    obtain ⟨h52, hf⟩ := o_cs hf
                                    refine b_lald hx hb hW 0 (5 + ix x1) rfl (mW_r5 (inB_lt h7)) h52 dX3_copy_214 ?_
                                    obtain ⟨v53, ev53, hf⟩ := o_ls hf
                                    refine b_topl ev53 ?_
                                    obtain ⟨h54, hf⟩ := o_cs hf
                                    obtain ⟨M55, eM55, hf⟩ := o_ls hf
                                    refine b_last hx hb hW 0 13 rfl mW_13 (mW_s13 eM55) rfl h54 dX3_copy_215 (fun H locs hW => ?_)
                                    have hW : bW D g A s H locs [mW g adM kM tM M55] := hW
                                    obtain ⟨v56, ev56, hf⟩ := o_ls hf
                                    refine lv_iinc (v := v56) (lv' := [(6, .int v56), (0, .ref (adM 0)), (1, .int x1), (2, .int x2), (3, .int x3), (4, .int x4), (5, .int x5)]) hx hb dX3_copy_216 hl (k := 0) rfl ev56 (by decide) rfl (fun ls hl => ?_)
                                    refine lv_goto (tgt := 191) hx hb dX3_copy_219 (by decide) ?_
                                    exact ih39 _ _ _ _ _ hW (lv_sub hl [0, 1, 2, 3, 4, 5, 6] rfl) hf
                              exact L39 _ _ _ _ _ _ hW (lv_sub hl [0, 1, 2, 3, 4, 5, 6] rfl) hf
                            · have hf := o_f hf c38
                              refine lv_aload_n hx hb dX3_copy_181 rfl (lv_at hl 0 rfl) ?_
                              refine lv_bipush (v := (-2)) hx hb dX3_copy_182 (by decide) ?_
                              obtain ⟨r57, M58, hc58, hf⟩ := o_b2s hf
                              have hp58 : List.Perm [mW g adM kM tM M] ([mW g adM kM tM M] ++ []) := b_perm [0] [] 1 rfl rfl rfl rfl
                              refine b_call0 ⟨rfl, rfl⟩ (va_runV (As := [.int (-2)]) (rest := []) ⟨hx, hb, hml, hown, hts⟩ (m_X3_refuse l D g H.size adM kM tM M (-2) r57 M58 hc58) (cwV 1 hts (lw_V q1572 q1574 qs33 q79 q1575) rfl rfl rfl (by decide +kernel) ⟨Nat.le_of_ble_eq_true rfl, Nat.le_of_ble_eq_true rfl⟩) (b_preV (pp := 0) (q := 0) hW hp58 rfl mW_0 rfl) rfl rfl hl.1 rfl (lv_room (Nat.le_of_ble_eq_true rfl)) dX3_copy_184 ⟨Nat.le_of_ble_eq_true rfl, Nat.le_of_ble_eq_true rfl⟩) hW hp58 (fun _ _ H locs hW => ?_)
                              have hW : bW D g A s H locs [mW g adM kM tM M58] := hW
                              cases hf
                              exact b_iret hx hb hr hlk hE hW () rfl trivial rfl dX3_copy_187
              · have hf := o_t hf c19
                refine lv_aload_n hx hb dX3_copy_111 rfl (lv_at hl 0 rfl) ?_
                refine lv_bipush (v := (-4)) hx hb dX3_copy_112 (by decide) ?_
                obtain ⟨r59, M60, hc60, hf⟩ := o_b2s hf
                have hp60 : List.Perm [mW g adM kM tM M] ([mW g adM kM tM M] ++ []) := b_perm [0] [] 1 rfl rfl rfl rfl
                refine b_call0 ⟨rfl, rfl⟩ (va_runV (As := [.int (-4)]) (rest := []) ⟨hx, hb, hml, hown, hts⟩ (m_X3_refuse l D g H.size adM kM tM M (-4) r59 M60 hc60) (cwV 1 hts (lw_V q1572 q1574 qs33 q79 q1575) rfl rfl rfl (by decide +kernel) ⟨Nat.le_of_ble_eq_true rfl, Nat.le_of_ble_eq_true rfl⟩) (b_preV (pp := 0) (q := 0) hW hp60 rfl mW_0 rfl) rfl rfl hl.1 rfl (lv_room (Nat.le_of_ble_eq_true rfl)) dX3_copy_114 ⟨Nat.le_of_ble_eq_true rfl, Nat.le_of_ble_eq_true rfl⟩) hW hp60 (fun _ _ H locs hW => ?_)
                have hW : bW D g A s H locs [mW g adM kM tM M60] := hW
                cases hf
                exact b_iret hx hb hr hlk hE hW () rfl trivial rfl dX3_copy_117
          · have hf := o_t hf c15
            refine lv_aload_n hx hb dX3_copy_61 rfl (lv_at hl 0 rfl) ?_
            refine b_get hx hb hts in_X3 hown hW 0 0 3 0 rfl mW_0 rfl (by decide) ⟨rfl, rfl, rfl⟩ (hts _ q1459) mW_g0 dX3_copy_62 ?_
            refine lv_iload_n hx hb dX3_copy_65 rfl (lv_at hl 2 rfl) ?_
            refine b_iald hx hb hW 0 1 rfl mW_1 h11 dX3_copy_66 ?_
            refine lv_iconst (v := 1) hx hb dX3_copy_67 (by decide) ?_
            refine lv_icmp_ne (tgt := 93) hx hb dX3_copy_68 (by decide) (fun c61 => ?_) (fun c61 => ?_)
            · have hf := o_f hf c61
              refine lv_aload_n hx hb dX3_copy_93 rfl (lv_at hl 0 rfl) ?_
              refine b_get hx hb hts in_X3 hown hW 0 0 3 0 rfl mW_0 rfl (by decide) ⟨rfl, rfl, rfl⟩ (hts _ q1459) mW_g0 dX3_copy_94 ?_
              refine lv_iload_n hx hb dX3_copy_97 rfl (lv_at hl 1 rfl) ?_
              refine b_iald hx hb hW 0 1 rfl mW_1 h7 dX3_copy_98 ?_
              refine lv_if_eq (tgt := 111) hx hb dX3_copy_99 (by decide) (fun c62 => ?_) (fun c62 => ?_)
              · have hf := o_t hf c62
                refine lv_aload_n hx hb dX3_copy_111 rfl (lv_at hl 0 rfl) ?_
                refine lv_bipush (v := (-4)) hx hb dX3_copy_112 (by decide) ?_
                obtain ⟨r63, M64, hc64, hf⟩ := o_b2s hf
                have hp64 : List.Perm [mW g adM kM tM M] ([mW g adM kM tM M] ++ []) := b_perm [0] [] 1 rfl rfl rfl rfl
                refine b_call0 ⟨rfl, rfl⟩ (va_runV (As := [.int (-4)]) (rest := []) ⟨hx, hb, hml, hown, hts⟩ (m_X3_refuse l D g H.size adM kM tM M (-4) r63 M64 hc64) (cwV 1 hts (lw_V q1572 q1574 qs33 q79 q1575) rfl rfl rfl (by decide +kernel) ⟨Nat.le_of_ble_eq_true rfl, Nat.le_of_ble_eq_true rfl⟩) (b_preV (pp := 0) (q := 0) hW hp64 rfl mW_0 rfl) rfl rfl hl.1 rfl (lv_room (Nat.le_of_ble_eq_true rfl)) dX3_copy_114 ⟨Nat.le_of_ble_eq_true rfl, Nat.le_of_ble_eq_true rfl⟩) hW hp64 (fun _ _ H locs hW => ?_)
                have hW : bW D g A s H locs [mW g adM kM tM M64] := hW
                cases hf
                exact b_iret hx hb hr hlk hE hW () rfl trivial rfl dX3_copy_117
              · have hf := o_f hf c62
                refine lv_aload_n hx hb dX3_copy_102 rfl (lv_at hl 0 rfl) ?_
                refine b_get hx hb hts in_X3 hown hW 0 0 3 0 rfl mW_0 rfl (by decide) ⟨rfl, rfl, rfl⟩ (hts _ q1459) mW_g0 dX3_copy_103 ?_
                refine lv_iload_n hx hb dX3_copy_106 rfl (lv_at hl 2 rfl) ?_
                refine b_iald hx hb hW 0 1 rfl mW_1 h11 dX3_copy_107 ?_
                refine lv_if_ne (tgt := 118) hx hb dX3_copy_108 (by decide) (fun c65 => ?_) (fun c65 => ?_)
                · have hf := o_f hf c65
                  refine lv_iload hx hb dX3_copy_118 (lv_at hl 5 rfl) ?_
                  refine lv_if_lt (tgt := 181) hx hb dX3_copy_120 (by decide) (fun c66 => ?_) (fun c66 => ?_)
                  · have hf := o_t hf c66
                    refine lv_aload_n hx hb dX3_copy_181 rfl (lv_at hl 0 rfl) ?_
                    refine lv_bipush (v := (-2)) hx hb dX3_copy_182 (by decide) ?_
                    obtain ⟨r67, M68, hc68, hf⟩ := o_b2s hf
                    have hp68 : List.Perm [mW g adM kM tM M] ([mW g adM kM tM M] ++ []) := b_perm [0] [] 1 rfl rfl rfl rfl
                    refine b_call0 ⟨rfl, rfl⟩ (va_runV (As := [.int (-2)]) (rest := []) ⟨hx, hb, hml, hown, hts⟩ (m_X3_refuse l D g H.size adM kM tM M (-2) r67 M68 hc68) (cwV 1 hts (lw_V q1572 q1574 qs33 q79 q1575) rfl rfl rfl (by decide +kernel) ⟨Nat.le_of_ble_eq_true rfl, Nat.le_of_ble_eq_true rfl⟩) (b_preV (pp := 0) (q := 0) hW hp68 rfl mW_0 rfl) rfl rfl hl.1 rfl (lv_room (Nat.le_of_ble_eq_true rfl)) dX3_copy_184 ⟨Nat.le_of_ble_eq_true rfl, Nat.le_of_ble_eq_true rfl⟩) hW hp68 (fun _ _ H locs hW => ?_)
                    have hW : bW D g A s H locs [mW g adM kM tM M68] := hW
                    cases hf
                    exact b_iret hx hb hr hlk hE hW () rfl trivial rfl dX3_copy_187
                  · have hf := o_f hf c66
                    refine lv_iload_n hx hb dX3_copy_123 rfl (lv_at hl 3 rfl) ?_
                    refine lv_if_lt (tgt := 181) hx hb dX3_copy_124 (by decide) (fun c69 => ?_) (fun c69 => ?_)
                    · have hf := o_t hf c69
                      refine lv_aload_n hx hb dX3_copy_181 rfl (lv_at hl 0 rfl) ?_
                      refine lv_bipush (v := (-2)) hx hb dX3_copy_182 (by decide) ?_
                      obtain ⟨r70, M71, hc71, hf⟩ := o_b2s hf
                      have hp71 : List.Perm [mW g adM kM tM M] ([mW g adM kM tM M] ++ []) := b_perm [0] [] 1 rfl rfl rfl rfl
                      refine b_call0 ⟨rfl, rfl⟩ (va_runV (As := [.int (-2)]) (rest := []) ⟨hx, hb, hml, hown, hts⟩ (m_X3_refuse l D g H.size adM kM tM M (-2) r70 M71 hc71) (cwV 1 hts (lw_V q1572 q1574 qs33 q79 q1575) rfl rfl rfl (by decide +kernel) ⟨Nat.le_of_ble_eq_true rfl, Nat.le_of_ble_eq_true rfl⟩) (b_preV (pp := 0) (q := 0) hW hp71 rfl mW_0 rfl) rfl rfl hl.1 rfl (lv_room (Nat.le_of_ble_eq_true rfl)) dX3_copy_184 ⟨Nat.le_of_ble_eq_true rfl, Nat.le_of_ble_eq_true rfl⟩) hW hp71 (fun _ _ H locs hW => ?_)
                      have hW : bW D g A s H locs [mW g adM kM tM M71] := hW
                      cases hf
                      exact b_iret hx hb hr hlk hE hW () rfl trivial rfl dX3_copy_187
                    · have hf := o_f hf c69
                      refine lv_iload hx hb dX3_copy_127 (lv_at hl 4 rfl) ?_
                      refine lv_if_lt (tgt := 181) hx hb dX3_copy_129 (by decide) (fun c72 => ?_) (fun c72 => ?_)
                      · have hf := o_t hf c72
                        refine lv_aload_n hx hb dX3_copy_181 rfl (lv_at hl 0 rfl) ?_
                        refine lv_bipush (v := (-2)) hx hb dX3_copy_182 (by decide) ?_
                        obtain ⟨r73, M74, hc74, hf⟩ := o_b2s hf
                        have hp74 : List.Perm [mW g adM kM tM M] ([mW g adM kM tM M] ++ []) := b_perm [0] [] 1 rfl rfl rfl rfl
                        refine b_call0 ⟨rfl, rfl⟩ (va_runV (As := [.int (-2)]) (rest := []) ⟨hx, hb, hml, hown, hts⟩ (m_X3_refuse l D g H.size adM kM tM M (-2) r73 M74 hc74) (cwV 1 hts (lw_V q1572 q1574 qs33 q79 q1575) rfl rfl rfl (by decide +kernel) ⟨Nat.le_of_ble_eq_true rfl, Nat.le_of_ble_eq_true rfl⟩) (b_preV (pp := 0) (q := 0) hW hp74 rfl mW_0 rfl) rfl rfl hl.1 rfl (lv_room (Nat.le_of_ble_eq_true rfl)) dX3_copy_184 ⟨Nat.le_of_ble_eq_true rfl, Nat.le_of_ble_eq_true rfl⟩) hW hp74 (fun _ _ H locs hW => ?_)
                        have hW : bW D g A s H locs [mW g adM kM tM M74] := hW
                        cases hf
                        exact b_iret hx hb hr hlk hE hW () rfl trivial rfl dX3_copy_187
                      · have hf := o_f hf c72
                        refine lv_iload hx hb dX3_copy_132 (lv_at hl 5 rfl) ?_
                        refine lv_aload_n hx hb dX3_copy_134 rfl (lv_at hl 0 rfl) ?_
                        refine b_get hx hb hts in_X3 hown hW 0 0 3 2 rfl mW_0 rfl (by decide) ⟨rfl, rfl, rfl⟩ (hts _ q1461) mW_g2 dX3_copy_135 ?_
                        refine lv_iload_n hx hb dX3_copy_138 rfl (lv_at hl 1 rfl) ?_
                        refine b_iald hx hb hW 0 3 rfl mW_3 h7 dX3_copy_139 ?_
                        refine lv_icmp_gt (tgt := 181) hx hb dX3_copy_140 (by decide) (fun c75 => ?_) (fun c75 => ?_)
                        · have hf := o_t hf c75
                          refine lv_aload_n hx hb dX3_copy_181 rfl (lv_at hl 0 rfl) ?_
                          refine lv_bipush (v := (-2)) hx hb dX3_copy_182 (by decide) ?_
                          obtain ⟨r76, M77, hc77, hf⟩ := o_b2s hf
                          have hp77 : List.Perm [mW g adM kM tM M] ([mW g adM kM tM M] ++ []) := b_perm [0] [] 1 rfl rfl rfl rfl
                          refine b_call0 ⟨rfl, rfl⟩ (va_runV (As := [.int (-2)]) (rest := []) ⟨hx, hb, hml, hown, hts⟩ (m_X3_refuse l D g H.size adM kM tM M (-2) r76 M77 hc77) (cwV 1 hts (lw_V q1572 q1574 qs33 q79 q1575) rfl rfl rfl (by decide +kernel) ⟨Nat.le_of_ble_eq_true rfl, Nat.le_of_ble_eq_true rfl⟩) (b_preV (pp := 0) (q := 0) hW hp77 rfl mW_0 rfl) rfl rfl hl.1 rfl (lv_room (Nat.le_of_ble_eq_true rfl)) dX3_copy_184 ⟨Nat.le_of_ble_eq_true rfl, Nat.le_of_ble_eq_true rfl⟩) hW hp77 (fun _ _ H locs hW => ?_)
                          have hW : bW D g A s H locs [mW g adM kM tM M77] := hW
                          cases hf
                          exact b_iret hx hb hr hlk hE hW () rfl trivial rfl dX3_copy_187
                        · have hf := o_f hf c75
                          refine lv_iload hx hb dX3_copy_143 (lv_at hl 5 rfl) ?_
                          refine lv_aload_n hx hb dX3_copy_145 rfl (lv_at hl 0 rfl) ?_
                          refine b_get hx hb hts in_X3 hown hW 0 0 3 2 rfl mW_0 rfl (by decide) ⟨rfl, rfl, rfl⟩ (hts _ q1461) mW_g2 dX3_copy_146 ?_
                          refine lv_iload_n hx hb dX3_copy_149 rfl (lv_at hl 2 rfl) ?_
                          refine b_iald hx hb hW 0 3 rfl mW_3 h11 dX3_copy_150 ?_
                          refine lv_icmp_gt (tgt := 181) hx hb dX3_copy_151 (by decide) (fun c78 => ?_) (fun c78 => ?_)
                          · have hf := o_t hf c78
                            refine lv_aload_n hx hb dX3_copy_181 rfl (lv_at hl 0 rfl) ?_
                            refine lv_bipush (v := (-2)) hx hb dX3_copy_182 (by decide) ?_
                            obtain ⟨r79, M80, hc80, hf⟩ := o_b2s hf
                            have hp80 : List.Perm [mW g adM kM tM M] ([mW g adM kM tM M] ++ []) := b_perm [0] [] 1 rfl rfl rfl rfl
                            refine b_call0 ⟨rfl, rfl⟩ (va_runV (As := [.int (-2)]) (rest := []) ⟨hx, hb, hml, hown, hts⟩ (m_X3_refuse l D g H.size adM kM tM M (-2) r79 M80 hc80) (cwV 1 hts (lw_V q1572 q1574 qs33 q79 q1575) rfl rfl rfl (by decide +kernel) ⟨Nat.le_of_ble_eq_true rfl, Nat.le_of_ble_eq_true rfl⟩) (b_preV (pp := 0) (q := 0) hW hp80 rfl mW_0 rfl) rfl rfl hl.1 rfl (lv_room (Nat.le_of_ble_eq_true rfl)) dX3_copy_184 ⟨Nat.le_of_ble_eq_true rfl, Nat.le_of_ble_eq_true rfl⟩) hW hp80 (fun _ _ H locs hW => ?_)
                            have hW : bW D g A s H locs [mW g adM kM tM M80] := hW
                            cases hf
                            exact b_iret hx hb hr hlk hE hW () rfl trivial rfl dX3_copy_187
                          · have hf := o_f hf c78
                            refine lv_iload_n hx hb dX3_copy_154 rfl (lv_at hl 3 rfl) ?_
                            refine lv_aload_n hx hb dX3_copy_155 rfl (lv_at hl 0 rfl) ?_
                            refine b_get hx hb hts in_X3 hown hW 0 0 3 2 rfl mW_0 rfl (by decide) ⟨rfl, rfl, rfl⟩ (hts _ q1461) mW_g2 dX3_copy_156 ?_
                            refine lv_iload_n hx hb dX3_copy_159 rfl (lv_at hl 1 rfl) ?_
                            refine b_iald hx hb hW 0 3 rfl mW_3 h7 dX3_copy_160 ?_
                            refine lv_iload hx hb dX3_copy_161 (lv_at hl 5 rfl) ?_
                            refine lv_isub hx hb dX3_copy_163 ?_
                            refine lv_icmp_gt (tgt := 181) hx hb dX3_copy_164 (by decide) (fun c81 => ?_) (fun c81 => ?_)
                            · have hf := o_t hf c81
                              refine lv_aload_n hx hb dX3_copy_181 rfl (lv_at hl 0 rfl) ?_
                              refine lv_bipush (v := (-2)) hx hb dX3_copy_182 (by decide) ?_
                              obtain ⟨r82, M83, hc83, hf⟩ := o_b2s hf
                              have hp83 : List.Perm [mW g adM kM tM M] ([mW g adM kM tM M] ++ []) := b_perm [0] [] 1 rfl rfl rfl rfl
                              refine b_call0 ⟨rfl, rfl⟩ (va_runV (As := [.int (-2)]) (rest := []) ⟨hx, hb, hml, hown, hts⟩ (m_X3_refuse l D g H.size adM kM tM M (-2) r82 M83 hc83) (cwV 1 hts (lw_V q1572 q1574 qs33 q79 q1575) rfl rfl rfl (by decide +kernel) ⟨Nat.le_of_ble_eq_true rfl, Nat.le_of_ble_eq_true rfl⟩) (b_preV (pp := 0) (q := 0) hW hp83 rfl mW_0 rfl) rfl rfl hl.1 rfl (lv_room (Nat.le_of_ble_eq_true rfl)) dX3_copy_184 ⟨Nat.le_of_ble_eq_true rfl, Nat.le_of_ble_eq_true rfl⟩) hW hp83 (fun _ _ H locs hW => ?_)
                              have hW : bW D g A s H locs [mW g adM kM tM M83] := hW
                              cases hf
                              exact b_iret hx hb hr hlk hE hW () rfl trivial rfl dX3_copy_187
                            · have hf := o_f hf c81
                              refine lv_iload hx hb dX3_copy_167 (lv_at hl 4 rfl) ?_
                              refine lv_aload_n hx hb dX3_copy_169 rfl (lv_at hl 0 rfl) ?_
                              refine b_get hx hb hts in_X3 hown hW 0 0 3 2 rfl mW_0 rfl (by decide) ⟨rfl, rfl, rfl⟩ (hts _ q1461) mW_g2 dX3_copy_170 ?_
                              refine lv_iload_n hx hb dX3_copy_173 rfl (lv_at hl 2 rfl) ?_
                              refine b_iald hx hb hW 0 3 rfl mW_3 h11 dX3_copy_174 ?_
                              refine lv_iload hx hb dX3_copy_175 (lv_at hl 5 rfl) ?_
                              refine lv_isub hx hb dX3_copy_177 ?_
                              refine lv_icmp_le (tgt := 188) hx hb dX3_copy_178 (by decide) (fun c84 => ?_) (fun c84 => ?_)
                              · have hf := o_t hf c84
                                refine lv_iconst (v := 0) hx hb dX3_copy_188 (by decide) ?_
                                refine lv_istore (lv' := [(6, .int 0), (0, .ref (adM 0)), (1, .int x1), (2, .int x2), (3, .int x3), (4, .int x4), (5, .int x5)]) hx hb dX3_copy_189 hl (by decide) rfl (fun ls hl => ?_)
                                obtain ⟨stp85, est85, hf⟩ := o_ln hf
                                have L85 : ∀ (n : Nat) (v86 : Int32) (M87 : BC) (H : Heap) (locs : List Loc) (ls : Array Slot), bW D g A s H locs [mW g adM kM tM M87] → lv_has ls 7 [(6, .int v86), (0, .ref (adM 0)), (1, .int x1), (2, .int x2), (3, .int x3), (4, .int x4), (5, .int x5)] → o_lp stp85 n (v86, M87) = some (rO, MO) → W p l e rm_X3_copy s m args below meth c H locs 0 0 Q (F0 m 191 ls []) := by
                                  intro n85
                                  induction n85 with
                                  | zero => intro v86 M87 H locs ls hW hl hf; exact (o_lz hf).elim
                                  | succ n85 ih85 =>
                                    intro v86 M87 H locs ls hW hl hf
                                    have hf := o_lu est85 hf
                                    rw [f_X3_copy_L191_85] at hf
                                    refine lv_iload hx hb dX3_copy_191 (lv_at hl 0 rfl) ?_
                                    refine lv_iload hx hb dX3_copy_193 (lv_at hl 6 rfl) ?_
                                    refine lv_icmp_ge (tgt := 222) hx hb dX3_copy_195 (by decide) (fun c88 => ?_) (fun c88 => ?_)
                                    · have hf := o_t hf c88
                                      refine lv_iconst (v := 0) hx hb dX3_copy_222 (by decide) ?_
                                      refine lv_istore (lv' := [(6, .int 0), (0, .ref (adM 0)), (1, .int x1), (2, .int x2), (3, .int x3), (4, .int x4), (5, .int x5)]) hx hb dX3_copy_223 hl (by decide) rfl (fun ls hl => ?_)
                                      obtain ⟨stp89, est89, hf⟩ := o_ln hf
                                      have L89 : ∀ (n : Nat) (v90 : Int32) (M91 : BC) (H : Heap) (locs : List Loc) (ls : Array Slot), bW D g A s H locs [mW g adM kM tM M91] → lv_has ls 7 [(6, .int v90), (0, .ref (adM 0)), (2, .int x2), (4, .int x4), (5, .int x5)] → o_lp stp89 n (v90, M91) = some (rO, MO) → W p l e rm_X3_copy s m args below meth c H locs 0 0 Q (F0 m 225 ls []) := by
                                        intro n89
                                        induction n89 with
                                        | zero => intro v90 M91 H locs ls hW hl hf; exact (o_lz hf).elim
                                        | succ n89 ih89 =>
                                          intro v90 M91 H locs ls hW hl hf
                                          have hf := o_lu est89 hf
                                          rw [f_X3_copy_L225_89] at hf
                                          refine lv_iload hx hb dX3_copy_225 (lv_at hl 0 rfl) ?_
                                          refine lv_iload hx hb dX3_copy_227 (lv_at hl 4 rfl) ?_
                                          refine lv_icmp_ge (tgt := 257) hx hb dX3_copy_229 (by decide) (fun c92 => ?_) (fun c92 => ?_)
                                          · have hf := o_t hf c92
                                            refine lv_iload hx hb dX3_copy_257 (lv_at hl 4 rfl) ?_
                                            cases hf
                                            exact b_iret hx hb hr hlk hE hW () rfl trivial rfl dX3_copy_259
                                          · have hf := o_f hf c92
                                            refine lv_aload_n hx hb dX3_copy_232 rfl (lv_at hl 1 rfl) ?_
                                            refine b_get hx hb hts in_X3 hown hW 0 0 3 3 rfl mW_0 rfl (by decide) ⟨rfl, rfl, rfl⟩ (hts _ q1462) mW_g3 dX3_copy_233 ?_
                                            refine lv_iload_n hx hb dX3_copy_236 rfl (lv_at hl 2 rfl) ?_
                                            refine b_agrL hx hb hW 0 4 rfl mW_4 h11 dX3_copy_237 ?_
                                            refine lv_iload hx hb dX3_copy_238 (lv_at hl 3 rfl) ?_
                                            refine lv_iload hx hb dX3_copy_240 (lv_at hl 0 rfl) ?_
                                            refine lv_iadd hx hb dX3_copy_242 ?_
                                            refine lv_aload_n hx hb dX3_copy_243 rfl (lv_at hl 1 rfl) ?_
                                            refine b_get hx hb hts in_X3 hown hW 0 0 3 4 rfl mW_0 rfl (by decide) ⟨rfl, rfl, rfl⟩ (hts _ q1463) mW_g4 dX3_copy_244 ?_
                                            refine lv_iload hx hb dX3_copy_247 (lv_at hl 0 rfl) ?_
                                            obtain ⟨h93, hf⟩ := o_cs hf
                                            refine b_lald hx hb hW 0 13 rfl mW_13 h93 dX3_copy_249 ?_
                                            obtain ⟨v94, ev94, hf⟩ := o_ls hf
                                            refine b_topl ev94 ?_
                                            obtain ⟨h95, hf⟩ := o_cs hf
                                            obtain ⟨M96, eM96, hf⟩ := o_ls hf
                                            refine b_last hx hb hW 0 (5 + ix x2) rfl (mW_r5 (inB_lt h11)) (mW_rs5 (inB_lt h11) eM96) rfl h95 dX3_copy_250 (fun H locs hW => ?_)
                                            have hW : bW D g A s H locs [mW g adM kM tM M96] := hW
                                            obtain ⟨v97, ev97, hf⟩ := o_ls hf
                                            refine lv_iinc (v := v97) (lv' := [(6, .int v97), (0, .ref (adM 0)), (2, .int x2), (4, .int x4), (5, .int x5)]) hx hb dX3_copy_251 hl (k := 0) rfl ev97 (by decide) rfl (fun ls hl => ?_)
                                            refine lv_goto (tgt := 225) hx hb dX3_copy_254 (by decide) ?_
                                            exact ih89 _ _ _ _ _ hW (lv_sub hl [0, 1, 2, 3, 4] rfl) hf
                                      exact L89 _ _ _ _ _ _ hW (lv_sub hl [0, 1, 3, 5, 6] rfl) hf
                                    · have hf := o_f hf c88
                                      refine lv_aload_n hx hb dX3_copy_198 rfl (lv_at hl 1 rfl) ?_
                                      refine b_get hx hb hts in_X3 hown hW 0 0 3 4 rfl mW_0 rfl (by decide) ⟨rfl, rfl, rfl⟩ (hts _ q1463) mW_g4 dX3_copy_199 ?_
                                      refine lv_iload hx hb dX3_copy_202 (lv_at hl 0 rfl) ?_
                                      refine lv_aload_n hx hb dX3_copy_204 rfl (lv_at hl 1 rfl) ?_
                                      refine b_get hx hb hts in_X3 hown hW 0 0 3 3 rfl mW_0 rfl (by decide) ⟨rfl, rfl, rfl⟩ (hts _ q1462) mW_g3 dX3_copy_205 ?_
                                      refine lv_iload_n hx hb dX3_copy_208 rfl (lv_at hl 2 rfl) ?_
                                      refine b_agrL hx hb hW 0 4 rfl mW_4 h7 dX3_copy_209 ?_
                                      refine lv_iload_n hx hb dX3_copy_210 rfl (lv_at hl 4 rfl) ?_
                                      refine lv_iload hx hb dX3_copy_211 (lv_at hl 0 rfl) ?_
                                      refine lv_iadd hx hb dX3_copy_213 ?_
                                      obtain ⟨h98, hf⟩ := o_cs hf
                                      refine b_lald hx hb hW 0 (5 + ix x1) rfl (mW_r5 (inB_lt h7)) h98 dX3_copy_214 ?_
                                      obtain ⟨v99, ev99, hf⟩ := o_ls hf
                                      refine b_topl ev99 ?_
                                      obtain ⟨h100, hf⟩ := o_cs hf
                                      obtain ⟨M101, eM101, hf⟩ := o_ls hf
                                      refine b_last hx hb hW 0 13 rfl mW_13 (mW_s13 eM101) rfl h100 dX3_copy_215 (fun H locs hW => ?_)
                                      have hW : bW D g A s H locs [mW g adM kM tM M101] := hW
                                      obtain ⟨v102, ev102, hf⟩ := o_ls hf
                                      refine lv_iinc (v := v102) (lv' := [(6, .int v102), (0, .ref (adM 0)), (1, .int x1), (2, .int x2), (3, .int x3), (4, .int x4), (5, .int x5)]) hx hb dX3_copy_216 hl (k := 0) rfl ev102 (by decide) rfl (fun ls hl => ?_)
                                      refine lv_goto (tgt := 191) hx hb dX3_copy_219 (by decide) ?_
                                      exact ih85 _ _ _ _ _ hW (lv_sub hl [0, 1, 2, 3, 4, 5, 6] rfl) hf
                                exact L85 _ _ _ _ _ _ hW (lv_sub hl [0, 1, 2, 3, 4, 5, 6] rfl) hf
                              · have hf := o_f hf c84
                                refine lv_aload_n hx hb dX3_copy_181 rfl (lv_at hl 0 rfl) ?_
                                refine lv_bipush (v := (-2)) hx hb dX3_copy_182 (by decide) ?_
                                obtain ⟨r103, M104, hc104, hf⟩ := o_b2s hf
                                have hp104 : List.Perm [mW g adM kM tM M] ([mW g adM kM tM M] ++ []) := b_perm [0] [] 1 rfl rfl rfl rfl
                                refine b_call0 ⟨rfl, rfl⟩ (va_runV (As := [.int (-2)]) (rest := []) ⟨hx, hb, hml, hown, hts⟩ (m_X3_refuse l D g H.size adM kM tM M (-2) r103 M104 hc104) (cwV 1 hts (lw_V q1572 q1574 qs33 q79 q1575) rfl rfl rfl (by decide +kernel) ⟨Nat.le_of_ble_eq_true rfl, Nat.le_of_ble_eq_true rfl⟩) (b_preV (pp := 0) (q := 0) hW hp104 rfl mW_0 rfl) rfl rfl hl.1 rfl (lv_room (Nat.le_of_ble_eq_true rfl)) dX3_copy_184 ⟨Nat.le_of_ble_eq_true rfl, Nat.le_of_ble_eq_true rfl⟩) hW hp104 (fun _ _ H locs hW => ?_)
                                have hW : bW D g A s H locs [mW g adM kM tM M104] := hW
                                cases hf
                                exact b_iret hx hb hr hlk hE hW () rfl trivial rfl dX3_copy_187
                · have hf := o_t hf c65
                  refine lv_aload_n hx hb dX3_copy_111 rfl (lv_at hl 0 rfl) ?_
                  refine lv_bipush (v := (-4)) hx hb dX3_copy_112 (by decide) ?_
                  obtain ⟨r105, M106, hc106, hf⟩ := o_b2s hf
                  have hp106 : List.Perm [mW g adM kM tM M] ([mW g adM kM tM M] ++ []) := b_perm [0] [] 1 rfl rfl rfl rfl
                  refine b_call0 ⟨rfl, rfl⟩ (va_runV (As := [.int (-4)]) (rest := []) ⟨hx, hb, hml, hown, hts⟩ (m_X3_refuse l D g H.size adM kM tM M (-4) r105 M106 hc106) (cwV 1 hts (lw_V q1572 q1574 qs33 q79 q1575) rfl rfl rfl (by decide +kernel) ⟨Nat.le_of_ble_eq_true rfl, Nat.le_of_ble_eq_true rfl⟩) (b_preV (pp := 0) (q := 0) hW hp106 rfl mW_0 rfl) rfl rfl hl.1 rfl (lv_room (Nat.le_of_ble_eq_true rfl)) dX3_copy_114 ⟨Nat.le_of_ble_eq_true rfl, Nat.le_of_ble_eq_true rfl⟩) hW hp106 (fun _ _ H locs hW => ?_)
                  have hW : bW D g A s H locs [mW g adM kM tM M106] := hW
                  cases hf
                  exact b_iret hx hb hr hlk hE hW () rfl trivial rfl dX3_copy_117
            · have hf := o_t hf c61
              refine lv_aload_n hx hb dX3_copy_71 rfl (lv_at hl 0 rfl) ?_
              refine b_get hx hb hts in_X3 hown hW 0 0 3 1 rfl mW_0 rfl (by decide) ⟨rfl, rfl, rfl⟩ (hts _ q1460) mW_g1 dX3_copy_72 ?_
              refine lv_iload_n hx hb dX3_copy_75 rfl (lv_at hl 1 rfl) ?_
              refine b_iald hx hb hW 0 2 rfl mW_2 h7 dX3_copy_76 ?_
              refine lv_aload_n hx hb dX3_copy_77 rfl (lv_at hl 0 rfl) ?_
              refine b_get hx hb hts in_X3 hown hW 0 0 3 1 rfl mW_0 rfl (by decide) ⟨rfl, rfl, rfl⟩ (hts _ q1460) mW_g1 dX3_copy_78 ?_
              refine lv_iload_n hx hb dX3_copy_81 rfl (lv_at hl 2 rfl) ?_
              refine b_iald hx hb hW 0 2 rfl mW_2 h11 dX3_copy_82 ?_
              refine lv_icmp_eq (tgt := 93) hx hb dX3_copy_83 (by decide) (fun c107 => ?_) (fun c107 => ?_)
              · have hf := o_t hf c107
                refine lv_aload_n hx hb dX3_copy_93 rfl (lv_at hl 0 rfl) ?_
                refine b_get hx hb hts in_X3 hown hW 0 0 3 0 rfl mW_0 rfl (by decide) ⟨rfl, rfl, rfl⟩ (hts _ q1459) mW_g0 dX3_copy_94 ?_
                refine lv_iload_n hx hb dX3_copy_97 rfl (lv_at hl 1 rfl) ?_
                refine b_iald hx hb hW 0 1 rfl mW_1 h7 dX3_copy_98 ?_
                refine lv_if_eq (tgt := 111) hx hb dX3_copy_99 (by decide) (fun c108 => ?_) (fun c108 => ?_)
                · have hf := o_t hf c108
                  refine lv_aload_n hx hb dX3_copy_111 rfl (lv_at hl 0 rfl) ?_
                  refine lv_bipush (v := (-4)) hx hb dX3_copy_112 (by decide) ?_
                  obtain ⟨r109, M110, hc110, hf⟩ := o_b2s hf
                  have hp110 : List.Perm [mW g adM kM tM M] ([mW g adM kM tM M] ++ []) := b_perm [0] [] 1 rfl rfl rfl rfl
                  refine b_call0 ⟨rfl, rfl⟩ (va_runV (As := [.int (-4)]) (rest := []) ⟨hx, hb, hml, hown, hts⟩ (m_X3_refuse l D g H.size adM kM tM M (-4) r109 M110 hc110) (cwV 1 hts (lw_V q1572 q1574 qs33 q79 q1575) rfl rfl rfl (by decide +kernel) ⟨Nat.le_of_ble_eq_true rfl, Nat.le_of_ble_eq_true rfl⟩) (b_preV (pp := 0) (q := 0) hW hp110 rfl mW_0 rfl) rfl rfl hl.1 rfl (lv_room (Nat.le_of_ble_eq_true rfl)) dX3_copy_114 ⟨Nat.le_of_ble_eq_true rfl, Nat.le_of_ble_eq_true rfl⟩) hW hp110 (fun _ _ H locs hW => ?_)
                  have hW : bW D g A s H locs [mW g adM kM tM M110] := hW
                  cases hf
                  exact b_iret hx hb hr hlk hE hW () rfl trivial rfl dX3_copy_117
                · have hf := o_f hf c108
                  refine lv_aload_n hx hb dX3_copy_102 rfl (lv_at hl 0 rfl) ?_
                  refine b_get hx hb hts in_X3 hown hW 0 0 3 0 rfl mW_0 rfl (by decide) ⟨rfl, rfl, rfl⟩ (hts _ q1459) mW_g0 dX3_copy_103 ?_
                  refine lv_iload_n hx hb dX3_copy_106 rfl (lv_at hl 2 rfl) ?_
                  refine b_iald hx hb hW 0 1 rfl mW_1 h11 dX3_copy_107 ?_
                  refine lv_if_ne (tgt := 118) hx hb dX3_copy_108 (by decide) (fun c111 => ?_) (fun c111 => ?_)
                  · have hf := o_f hf c111
                    refine lv_iload hx hb dX3_copy_118 (lv_at hl 5 rfl) ?_
                    refine lv_if_lt (tgt := 181) hx hb dX3_copy_120 (by decide) (fun c112 => ?_) (fun c112 => ?_)
                    · have hf := o_t hf c112
                      refine lv_aload_n hx hb dX3_copy_181 rfl (lv_at hl 0 rfl) ?_
                      refine lv_bipush (v := (-2)) hx hb dX3_copy_182 (by decide) ?_
                      obtain ⟨r113, M114, hc114, hf⟩ := o_b2s hf
                      have hp114 : List.Perm [mW g adM kM tM M] ([mW g adM kM tM M] ++ []) := b_perm [0] [] 1 rfl rfl rfl rfl
                      refine b_call0 ⟨rfl, rfl⟩ (va_runV (As := [.int (-2)]) (rest := []) ⟨hx, hb, hml, hown, hts⟩ (m_X3_refuse l D g H.size adM kM tM M (-2) r113 M114 hc114) (cwV 1 hts (lw_V q1572 q1574 qs33 q79 q1575) rfl rfl rfl (by decide +kernel) ⟨Nat.le_of_ble_eq_true rfl, Nat.le_of_ble_eq_true rfl⟩) (b_preV (pp := 0) (q := 0) hW hp114 rfl mW_0 rfl) rfl rfl hl.1 rfl (lv_room (Nat.le_of_ble_eq_true rfl)) dX3_copy_184 ⟨Nat.le_of_ble_eq_true rfl, Nat.le_of_ble_eq_true rfl⟩) hW hp114 (fun _ _ H locs hW => ?_)
                      have hW : bW D g A s H locs [mW g adM kM tM M114] := hW
                      cases hf
                      exact b_iret hx hb hr hlk hE hW () rfl trivial rfl dX3_copy_187
                    · have hf := o_f hf c112
                      refine lv_iload_n hx hb dX3_copy_123 rfl (lv_at hl 3 rfl) ?_
                      refine lv_if_lt (tgt := 181) hx hb dX3_copy_124 (by decide) (fun c115 => ?_) (fun c115 => ?_)
                      · have hf := o_t hf c115
                        refine lv_aload_n hx hb dX3_copy_181 rfl (lv_at hl 0 rfl) ?_
                        refine lv_bipush (v := (-2)) hx hb dX3_copy_182 (by decide) ?_
                        obtain ⟨r116, M117, hc117, hf⟩ := o_b2s hf
                        have hp117 : List.Perm [mW g adM kM tM M] ([mW g adM kM tM M] ++ []) := b_perm [0] [] 1 rfl rfl rfl rfl
                        refine b_call0 ⟨rfl, rfl⟩ (va_runV (As := [.int (-2)]) (rest := []) ⟨hx, hb, hml, hown, hts⟩ (m_X3_refuse l D g H.size adM kM tM M (-2) r116 M117 hc117) (cwV 1 hts (lw_V q1572 q1574 qs33 q79 q1575) rfl rfl rfl (by decide +kernel) ⟨Nat.le_of_ble_eq_true rfl, Nat.le_of_ble_eq_true rfl⟩) (b_preV (pp := 0) (q := 0) hW hp117 rfl mW_0 rfl) rfl rfl hl.1 rfl (lv_room (Nat.le_of_ble_eq_true rfl)) dX3_copy_184 ⟨Nat.le_of_ble_eq_true rfl, Nat.le_of_ble_eq_true rfl⟩) hW hp117 (fun _ _ H locs hW => ?_)
                        have hW : bW D g A s H locs [mW g adM kM tM M117] := hW
                        cases hf
                        exact b_iret hx hb hr hlk hE hW () rfl trivial rfl dX3_copy_187
                      · have hf := o_f hf c115
                        refine lv_iload hx hb dX3_copy_127 (lv_at hl 4 rfl) ?_
                        refine lv_if_lt (tgt := 181) hx hb dX3_copy_129 (by decide) (fun c118 => ?_) (fun c118 => ?_)
                        · have hf := o_t hf c118
                          refine lv_aload_n hx hb dX3_copy_181 rfl (lv_at hl 0 rfl) ?_
                          refine lv_bipush (v := (-2)) hx hb dX3_copy_182 (by decide) ?_
                          obtain ⟨r119, M120, hc120, hf⟩ := o_b2s hf
                          have hp120 : List.Perm [mW g adM kM tM M] ([mW g adM kM tM M] ++ []) := b_perm [0] [] 1 rfl rfl rfl rfl
                          refine b_call0 ⟨rfl, rfl⟩ (va_runV (As := [.int (-2)]) (rest := []) ⟨hx, hb, hml, hown, hts⟩ (m_X3_refuse l D g H.size adM kM tM M (-2) r119 M120 hc120) (cwV 1 hts (lw_V q1572 q1574 qs33 q79 q1575) rfl rfl rfl (by decide +kernel) ⟨Nat.le_of_ble_eq_true rfl, Nat.le_of_ble_eq_true rfl⟩) (b_preV (pp := 0) (q := 0) hW hp120 rfl mW_0 rfl) rfl rfl hl.1 rfl (lv_room (Nat.le_of_ble_eq_true rfl)) dX3_copy_184 ⟨Nat.le_of_ble_eq_true rfl, Nat.le_of_ble_eq_true rfl⟩) hW hp120 (fun _ _ H locs hW => ?_)
                          have hW : bW D g A s H locs [mW g adM kM tM M120] := hW
                          cases hf
                          exact b_iret hx hb hr hlk hE hW () rfl trivial rfl dX3_copy_187
                        · have hf := o_f hf c118
                          refine lv_iload hx hb dX3_copy_132 (lv_at hl 5 rfl) ?_
                          refine lv_aload_n hx hb dX3_copy_134 rfl (lv_at hl 0 rfl) ?_
                          refine b_get hx hb hts in_X3 hown hW 0 0 3 2 rfl mW_0 rfl (by decide) ⟨rfl, rfl, rfl⟩ (hts _ q1461) mW_g2 dX3_copy_135 ?_
                          refine lv_iload_n hx hb dX3_copy_138 rfl (lv_at hl 1 rfl) ?_
                          refine b_iald hx hb hW 0 3 rfl mW_3 h7 dX3_copy_139 ?_
                          refine lv_icmp_gt (tgt := 181) hx hb dX3_copy_140 (by decide) (fun c121 => ?_) (fun c121 => ?_)
                          · have hf := o_t hf c121
                            refine lv_aload_n hx hb dX3_copy_181 rfl (lv_at hl 0 rfl) ?_
                            refine lv_bipush (v := (-2)) hx hb dX3_copy_182 (by decide) ?_
                            obtain ⟨r122, M123, hc123, hf⟩ := o_b2s hf
                            have hp123 : List.Perm [mW g adM kM tM M] ([mW g adM kM tM M] ++ []) := b_perm [0] [] 1 rfl rfl rfl rfl
                            refine b_call0 ⟨rfl, rfl⟩ (va_runV (As := [.int (-2)]) (rest := []) ⟨hx, hb, hml, hown, hts⟩ (m_X3_refuse l D g H.size adM kM tM M (-2) r122 M123 hc123) (cwV 1 hts (lw_V q1572 q1574 qs33 q79 q1575) rfl rfl rfl (by decide +kernel) ⟨Nat.le_of_ble_eq_true rfl, Nat.le_of_ble_eq_true rfl⟩) (b_preV (pp := 0) (q := 0) hW hp123 rfl mW_0 rfl) rfl rfl hl.1 rfl (lv_room (Nat.le_of_ble_eq_true rfl)) dX3_copy_184 ⟨Nat.le_of_ble_eq_true rfl, Nat.le_of_ble_eq_true rfl⟩) hW hp123 (fun _ _ H locs hW => ?_)
                            have hW : bW D g A s H locs [mW g adM kM tM M123] := hW
                            cases hf
                            exact b_iret hx hb hr hlk hE hW () rfl trivial rfl dX3_copy_187
                          · have hf := o_f hf c121
                            refine lv_iload hx hb dX3_copy_143 (lv_at hl 5 rfl) ?_
                            refine lv_aload_n hx hb dX3_copy_145 rfl (lv_at hl 0 rfl) ?_
                            refine b_get hx hb hts in_X3 hown hW 0 0 3 2 rfl mW_0 rfl (by decide) ⟨rfl, rfl, rfl⟩ (hts _ q1461) mW_g2 dX3_copy_146 ?_
                            refine lv_iload_n hx hb dX3_copy_149 rfl (lv_at hl 2 rfl) ?_
                            refine b_iald hx hb hW 0 3 rfl mW_3 h11 dX3_copy_150 ?_
                            refine lv_icmp_gt (tgt := 181) hx hb dX3_copy_151 (by decide) (fun c124 => ?_) (fun c124 => ?_)
                            · have hf := o_t hf c124
                              refine lv_aload_n hx hb dX3_copy_181 rfl (lv_at hl 0 rfl) ?_
                              refine lv_bipush (v := (-2)) hx hb dX3_copy_182 (by decide) ?_
                              obtain ⟨r125, M126, hc126, hf⟩ := o_b2s hf
                              have hp126 : List.Perm [mW g adM kM tM M] ([mW g adM kM tM M] ++ []) := b_perm [0] [] 1 rfl rfl rfl rfl
                              refine b_call0 ⟨rfl, rfl⟩ (va_runV (As := [.int (-2)]) (rest := []) ⟨hx, hb, hml, hown, hts⟩ (m_X3_refuse l D g H.size adM kM tM M (-2) r125 M126 hc126) (cwV 1 hts (lw_V q1572 q1574 qs33 q79 q1575) rfl rfl rfl (by decide +kernel) ⟨Nat.le_of_ble_eq_true rfl, Nat.le_of_ble_eq_true rfl⟩) (b_preV (pp := 0) (q := 0) hW hp126 rfl mW_0 rfl) rfl rfl hl.1 rfl (lv_room (Nat.le_of_ble_eq_true rfl)) dX3_copy_184 ⟨Nat.le_of_ble_eq_true rfl, Nat.le_of_ble_eq_true rfl⟩) hW hp126 (fun _ _ H locs hW => ?_)
                              have hW : bW D g A s H locs [mW g adM kM tM M126] := hW
                              cases hf
                              exact b_iret hx hb hr hlk hE hW () rfl trivial rfl dX3_copy_187
                            · have hf := o_f hf c124
                              refine lv_iload_n hx hb dX3_copy_154 rfl (lv_at hl 3 rfl) ?_
                              refine lv_aload_n hx hb dX3_copy_155 rfl (lv_at hl 0 rfl) ?_
                              refine b_get hx hb hts in_X3 hown hW 0 0 3 2 rfl mW_0 rfl (by decide) ⟨rfl, rfl, rfl⟩ (hts _ q1461) mW_g2 dX3_copy_156 ?_
                              refine lv_iload_n hx hb dX3_copy_159 rfl (lv_at hl 1 rfl) ?_
                              refine b_iald hx hb hW 0 3 rfl mW_3 h7 dX3_copy_160 ?_
                              refine lv_iload hx hb dX3_copy_161 (lv_at hl 5 rfl) ?_
                              refine lv_isub hx hb dX3_copy_163 ?_
                              refine lv_icmp_gt (tgt := 181) hx hb dX3_copy_164 (by decide) (fun c127 => ?_) (fun c127 => ?_)
                              · have hf := o_t hf c127
                                refine lv_aload_n hx hb dX3_copy_181 rfl (lv_at hl 0 rfl) ?_
                                refine lv_bipush (v := (-2)) hx hb dX3_copy_182 (by decide) ?_
                                obtain ⟨r128, M129, hc129, hf⟩ := o_b2s hf
                                have hp129 : List.Perm [mW g adM kM tM M] ([mW g adM kM tM M] ++ []) := b_perm [0] [] 1 rfl rfl rfl rfl
                                refine b_call0 ⟨rfl, rfl⟩ (va_runV (As := [.int (-2)]) (rest := []) ⟨hx, hb, hml, hown, hts⟩ (m_X3_refuse l D g H.size adM kM tM M (-2) r128 M129 hc129) (cwV 1 hts (lw_V q1572 q1574 qs33 q79 q1575) rfl rfl rfl (by decide +kernel) ⟨Nat.le_of_ble_eq_true rfl, Nat.le_of_ble_eq_true rfl⟩) (b_preV (pp := 0) (q := 0) hW hp129 rfl mW_0 rfl) rfl rfl hl.1 rfl (lv_room (Nat.le_of_ble_eq_true rfl)) dX3_copy_184 ⟨Nat.le_of_ble_eq_true rfl, Nat.le_of_ble_eq_true rfl⟩) hW hp129 (fun _ _ H locs hW => ?_)
                                have hW : bW D g A s H locs [mW g adM kM tM M129] := hW
                                cases hf
                                exact b_iret hx hb hr hlk hE hW () rfl trivial rfl dX3_copy_187
                              · have hf := o_f hf c127
                                refine lv_iload hx hb dX3_copy_167 (lv_at hl 4 rfl) ?_
                                refine lv_aload_n hx hb dX3_copy_169 rfl (lv_at hl 0 rfl) ?_
                                refine b_get hx hb hts in_X3 hown hW 0 0 3 2 rfl mW_0 rfl (by decide) ⟨rfl, rfl, rfl⟩ (hts _ q1461) mW_g2 dX3_copy_170 ?_
                                refine lv_iload_n hx hb dX3_copy_173 rfl (lv_at hl 2 rfl) ?_
                                refine b_iald hx hb hW 0 3 rfl mW_3 h11 dX3_copy_174 ?_
                                refine lv_iload hx hb dX3_copy_175 (lv_at hl 5 rfl) ?_
                                refine lv_isub hx hb dX3_copy_177 ?_
                                refine lv_icmp_le (tgt := 188) hx hb dX3_copy_178 (by decide) (fun c130 => ?_) (fun c130 => ?_)
                                · have hf := o_t hf c130
                                  refine lv_iconst (v := 0) hx hb dX3_copy_188 (by decide) ?_
                                  refine lv_istore (lv' := [(6, .int 0), (0, .ref (adM 0)), (1, .int x1), (2, .int x2), (3, .int x3), (4, .int x4), (5, .int x5)]) hx hb dX3_copy_189 hl (by decide) rfl (fun ls hl => ?_)
                                  obtain ⟨stp131, est131, hf⟩ := o_ln hf
                                  have L131 : ∀ (n : Nat) (v132 : Int32) (M133 : BC) (H : Heap) (locs : List Loc) (ls : Array Slot), bW D g A s H locs [mW g adM kM tM M133] → lv_has ls 7 [(6, .int v132), (0, .ref (adM 0)), (1, .int x1), (2, .int x2), (3, .int x3), (4, .int x4), (5, .int x5)] → o_lp stp131 n (v132, M133) = some (rO, MO) → W p l e rm_X3_copy s m args below meth c H locs 0 0 Q (F0 m 191 ls []) := by
                                    intro n131
                                    induction n131 with
                                    | zero => intro v132 M133 H locs ls hW hl hf; exact (o_lz hf).elim
                                    | succ n131 ih131 =>
                                      intro v132 M133 H locs ls hW hl hf
                                      have hf := o_lu est131 hf
                                      rw [f_X3_copy_L191_131] at hf
                                      refine lv_iload hx hb dX3_copy_191 (lv_at hl 0 rfl) ?_
                                      refine lv_iload hx hb dX3_copy_193 (lv_at hl 6 rfl) ?_
                                      refine lv_icmp_ge (tgt := 222) hx hb dX3_copy_195 (by decide) (fun c134 => ?_) (fun c134 => ?_)
                                      · have hf := o_t hf c134
                                        refine lv_iconst (v := 0) hx hb dX3_copy_222 (by decide) ?_
                                        refine lv_istore (lv' := [(6, .int 0), (0, .ref (adM 0)), (1, .int x1), (2, .int x2), (3, .int x3), (4, .int x4), (5, .int x5)]) hx hb dX3_copy_223 hl (by decide) rfl (fun ls hl => ?_)
                                        obtain ⟨stp135, est135, hf⟩ := o_ln hf
                                        have L135 : ∀ (n : Nat) (v136 : Int32) (M137 : BC) (H : Heap) (locs : List Loc) (ls : Array Slot), bW D g A s H locs [mW g adM kM tM M137] → lv_has ls 7 [(6, .int v136), (0, .ref (adM 0)), (2, .int x2), (4, .int x4), (5, .int x5)] → o_lp stp135 n (v136, M137) = some (rO, MO) → W p l e rm_X3_copy s m args below meth c H locs 0 0 Q (F0 m 225 ls []) := by
                                          intro n135
                                          induction n135 with
                                          | zero => intro v136 M137 H locs ls hW hl hf; exact (o_lz hf).elim
                                          | succ n135 ih135 =>
                                            intro v136 M137 H locs ls hW hl hf
                                            have hf := o_lu est135 hf
                                            rw [f_X3_copy_L225_135] at hf
                                            refine lv_iload hx hb dX3_copy_225 (lv_at hl 0 rfl) ?_
                                            refine lv_iload hx hb dX3_copy_227 (lv_at hl 4 rfl) ?_
                                            refine lv_icmp_ge (tgt := 257) hx hb dX3_copy_229 (by decide) (fun c138 => ?_) (fun c138 => ?_)
                                            · have hf := o_t hf c138
                                              refine lv_iload hx hb dX3_copy_257 (lv_at hl 4 rfl) ?_
                                              cases hf
                                              exact b_iret hx hb hr hlk hE hW () rfl trivial rfl dX3_copy_259
                                            · have hf := o_f hf c138
                                              refine lv_aload_n hx hb dX3_copy_232 rfl (lv_at hl 1 rfl) ?_
                                              refine b_get hx hb hts in_X3 hown hW 0 0 3 3 rfl mW_0 rfl (by decide) ⟨rfl, rfl, rfl⟩ (hts _ q1462) mW_g3 dX3_copy_233 ?_
                                              refine lv_iload_n hx hb dX3_copy_236 rfl (lv_at hl 2 rfl) ?_
                                              refine b_agrL hx hb hW 0 4 rfl mW_4 h11 dX3_copy_237 ?_
                                              refine lv_iload hx hb dX3_copy_238 (lv_at hl 3 rfl) ?_
                                              refine lv_iload hx hb dX3_copy_240 (lv_at hl 0 rfl) ?_
                                              refine lv_iadd hx hb dX3_copy_242 ?_
                                              refine lv_aload_n hx hb dX3_copy_243 rfl (lv_at hl 1 rfl) ?_
                                              refine b_get hx hb hts in_X3 hown hW 0 0 3 4 rfl mW_0 rfl (by decide) ⟨rfl, rfl, rfl⟩ (hts _ q1463) mW_g4 dX3_copy_244 ?_
                                              refine lv_iload hx hb dX3_copy_247 (lv_at hl 0 rfl) ?_
                                              obtain ⟨h139, hf⟩ := o_cs hf
                                              refine b_lald hx hb hW 0 13 rfl mW_13 h139 dX3_copy_249 ?_
                                              obtain ⟨v140, ev140, hf⟩ := o_ls hf
                                              refine b_topl ev140 ?_
                                              obtain ⟨h141, hf⟩ := o_cs hf
                                              obtain ⟨M142, eM142, hf⟩ := o_ls hf
                                              refine b_last hx hb hW 0 (5 + ix x2) rfl (mW_r5 (inB_lt h11)) (mW_rs5 (inB_lt h11) eM142) rfl h141 dX3_copy_250 (fun H locs hW => ?_)
                                              have hW : bW D g A s H locs [mW g adM kM tM M142] := hW
                                              obtain ⟨v143, ev143, hf⟩ := o_ls hf
                                              refine lv_iinc (v := v143) (lv' := [(6, .int v143), (0, .ref (adM 0)), (2, .int x2), (4, .int x4), (5, .int x5)]) hx hb dX3_copy_251 hl (k := 0) rfl ev143 (by decide) rfl (fun ls hl => ?_)
                                              refine lv_goto (tgt := 225) hx hb dX3_copy_254 (by decide) ?_
                                              exact ih135 _ _ _ _ _ hW (lv_sub hl [0, 1, 2, 3, 4] rfl) hf
                                        exact L135 _ _ _ _ _ _ hW (lv_sub hl [0, 1, 3, 5, 6] rfl) hf
                                      · have hf := o_f hf c134
                                        refine lv_aload_n hx hb dX3_copy_198 rfl (lv_at hl 1 rfl) ?_
                                        refine b_get hx hb hts in_X3 hown hW 0 0 3 4 rfl mW_0 rfl (by decide) ⟨rfl, rfl, rfl⟩ (hts _ q1463) mW_g4 dX3_copy_199 ?_
                                        refine lv_iload hx hb dX3_copy_202 (lv_at hl 0 rfl) ?_
                                        refine lv_aload_n hx hb dX3_copy_204 rfl (lv_at hl 1 rfl) ?_
                                        refine b_get hx hb hts in_X3 hown hW 0 0 3 3 rfl mW_0 rfl (by decide) ⟨rfl, rfl, rfl⟩ (hts _ q1462) mW_g3 dX3_copy_205 ?_
                                        refine lv_iload_n hx hb dX3_copy_208 rfl (lv_at hl 2 rfl) ?_
                                        refine b_agrL hx hb hW 0 4 rfl mW_4 h7 dX3_copy_209 ?_
                                        refine lv_iload_n hx hb dX3_copy_210 rfl (lv_at hl 4 rfl) ?_
                                        refine lv_iload hx hb dX3_copy_211 (lv_at hl 0 rfl) ?_
                                        refine lv_iadd hx hb dX3_copy_213 ?_
                                        obtain ⟨h144, hf⟩ := o_cs hf
                                        refine b_lald hx hb hW 0 (5 + ix x1) rfl (mW_r5 (inB_lt h7)) h144 dX3_copy_214 ?_
                                        obtain ⟨v145, ev145, hf⟩ := o_ls hf
                                        refine b_topl ev145 ?_
                                        obtain ⟨h146, hf⟩ := o_cs hf
                                        obtain ⟨M147, eM147, hf⟩ := o_ls hf
                                        refine b_last hx hb hW 0 13 rfl mW_13 (mW_s13 eM147) rfl h146 dX3_copy_215 (fun H locs hW => ?_)
                                        have hW : bW D g A s H locs [mW g adM kM tM M147] := hW
                                        obtain ⟨v148, ev148, hf⟩ := o_ls hf
                                        refine lv_iinc (v := v148) (lv' := [(6, .int v148), (0, .ref (adM 0)), (1, .int x1), (2, .int x2), (3, .int x3), (4, .int x4), (5, .int x5)]) hx hb dX3_copy_216 hl (k := 0) rfl ev148 (by decide) rfl (fun ls hl => ?_)
                                        refine lv_goto (tgt := 191) hx hb dX3_copy_219 (by decide) ?_
                                        exact ih131 _ _ _ _ _ hW (lv_sub hl [0, 1, 2, 3, 4, 5, 6] rfl) hf
                                  exact L131 _ _ _ _ _ _ hW (lv_sub hl [0, 1, 2, 3, 4, 5, 6] rfl) hf
                                · have hf := o_f hf c130
                                  refine lv_aload_n hx hb dX3_copy_181 rfl (lv_at hl 0 rfl) ?_
                                  refine lv_bipush (v := (-2)) hx hb dX3_copy_182 (by decide) ?_
                                  obtain ⟨r149, M150, hc150, hf⟩ := o_b2s hf
                                  have hp150 : List.Perm [mW g adM kM tM M] ([mW g adM kM tM M] ++ []) := b_perm [0] [] 1 rfl rfl rfl rfl
                                  refine b_call0 ⟨rfl, rfl⟩ (va_runV (As := [.int (-2)]) (rest := []) ⟨hx, hb, hml, hown, hts⟩ (m_X3_refuse l D g H.size adM kM tM M (-2) r149 M150 hc150) (cwV 1 hts (lw_V q1572 q1574 qs33 q79 q1575) rfl rfl rfl (by decide +kernel) ⟨Nat.le_of_ble_eq_true rfl, Nat.le_of_ble_eq_true rfl⟩) (b_preV (pp := 0) (q := 0) hW hp150 rfl mW_0 rfl) rfl rfl hl.1 rfl (lv_room (Nat.le_of_ble_eq_true rfl)) dX3_copy_184 ⟨Nat.le_of_ble_eq_true rfl, Nat.le_of_ble_eq_true rfl⟩) hW hp150 (fun _ _ H locs hW => ?_)
                                  have hW : bW D g A s H locs [mW g adM kM tM M150] := hW
                                  cases hf
                                  exact b_iret hx hb hr hlk hE hW () rfl trivial rfl dX3_copy_187
                  · have hf := o_t hf c111
                    refine lv_aload_n hx hb dX3_copy_111 rfl (lv_at hl 0 rfl) ?_
                    refine lv_bipush (v := (-4)) hx hb dX3_copy_112 (by decide) ?_
                    obtain ⟨r151, M152, hc152, hf⟩ := o_b2s hf
                    have hp152 : List.Perm [mW g adM kM tM M] ([mW g adM kM tM M] ++ []) := b_perm [0] [] 1 rfl rfl rfl rfl
                    refine b_call0 ⟨rfl, rfl⟩ (va_runV (As := [.int (-4)]) (rest := []) ⟨hx, hb, hml, hown, hts⟩ (m_X3_refuse l D g H.size adM kM tM M (-4) r151 M152 hc152) (cwV 1 hts (lw_V q1572 q1574 qs33 q79 q1575) rfl rfl rfl (by decide +kernel) ⟨Nat.le_of_ble_eq_true rfl, Nat.le_of_ble_eq_true rfl⟩) (b_preV (pp := 0) (q := 0) hW hp152 rfl mW_0 rfl) rfl rfl hl.1 rfl (lv_room (Nat.le_of_ble_eq_true rfl)) dX3_copy_114 ⟨Nat.le_of_ble_eq_true rfl, Nat.le_of_ble_eq_true rfl⟩) hW hp152 (fun _ _ H locs hW => ?_)
                    have hW : bW D g A s H locs [mW g adM kM tM M152] := hW
                    cases hf
                    exact b_iret hx hb hr hlk hE hW () rfl trivial rfl dX3_copy_117
              · have hf := o_f hf c107
                refine lv_aload_n hx hb dX3_copy_86 rfl (lv_at hl 0 rfl) ?_
                refine lv_bipush (v := (-3)) hx hb dX3_copy_87 (by decide) ?_
                obtain ⟨r153, M154, hc154, hf⟩ := o_b2s hf
                have hp154 : List.Perm [mW g adM kM tM M] ([mW g adM kM tM M] ++ []) := b_perm [0] [] 1 rfl rfl rfl rfl
                refine b_call0 ⟨rfl, rfl⟩ (va_runV (As := [.int (-3)]) (rest := []) ⟨hx, hb, hml, hown, hts⟩ (m_X3_refuse l D g H.size adM kM tM M (-3) r153 M154 hc154) (cwV 1 hts (lw_V q1572 q1574 qs33 q79 q1575) rfl rfl rfl (by decide +kernel) ⟨Nat.le_of_ble_eq_true rfl, Nat.le_of_ble_eq_true rfl⟩) (b_preV (pp := 0) (q := 0) hW hp154 rfl mW_0 rfl) rfl rfl hl.1 rfl (lv_room (Nat.le_of_ble_eq_true rfl)) dX3_copy_89 ⟨Nat.le_of_ble_eq_true rfl, Nat.le_of_ble_eq_true rfl⟩) hW hp154 (fun _ _ H locs hW => ?_)
                have hW : bW D g A s H locs [mW g adM kM tM M154] := hW
                cases hf
                exact b_iret hx hb hr hlk hE hW () rfl trivial rfl dX3_copy_92
    · have hf := o_t hf c6
      refine lv_aload_n hx hb dX3_copy_24 rfl (lv_at hl 0 rfl) ?_
      refine lv_bipush (v := (-2)) hx hb dX3_copy_25 (by decide) ?_
      obtain ⟨r155, M156, hc156, hf⟩ := o_b2s hf
      have hp156 : List.Perm [mW g adM kM tM M] ([mW g adM kM tM M] ++ []) := b_perm [0] [] 1 rfl rfl rfl rfl
      refine b_call0 ⟨rfl, rfl⟩ (va_runV (As := [.int (-2)]) (rest := []) ⟨hx, hb, hml, hown, hts⟩ (m_X3_refuse l D g H.size adM kM tM M (-2) r155 M156 hc156) (cwV 1 hts (lw_V q1572 q1574 qs33 q79 q1575) rfl rfl rfl (by decide +kernel) ⟨Nat.le_of_ble_eq_true rfl, Nat.le_of_ble_eq_true rfl⟩) (b_preV (pp := 0) (q := 0) hW hp156 rfl mW_0 rfl) rfl rfl hl.1 rfl (lv_room (Nat.le_of_ble_eq_true rfl)) dX3_copy_27 ⟨Nat.le_of_ble_eq_true rfl, Nat.le_of_ble_eq_true rfl⟩) hW hp156 (fun _ _ H locs hW => ?_)
      have hW : bW D g A s H locs [mW g adM kM tM M156] := hW
      cases hf
      exact b_iret hx hb hr hlk hE hW () rfl trivial rfl dX3_copy_30
def f_X3_element (M : BC) (x1 : Int32) (x2 : Int32) : Option Int64 :=
 o_b1 (f_X3_in x1.toInt64 0 7) fun (r1 : Int32) =>
 (if r1 = 0 then
 some 0
 else
 o_ck (inB x1 8) ((if (M.1 1 (ix x1)) = 1 then
 o_b1 (f_X3_in x2.toInt64 0 (((M.1 3 (ix x1)) - 1).toInt64)) fun (r5 : Int32) =>
 (if r5 = 0 then
 some 0
 else
 o_ck (inB x2 40) (some (M.2.2 (5 + ix x1) (ix x2))))
 else
 some 0)))
abbrev rm_X3_element : Room := { frames := 1, cells := 0, slots := 0, locals := 25 }
set_option maxHeartbeats 4000000 in
set_option maxRecDepth 100000 in
theorem m_X3_element (l : Launch) (D : va_G) (g : Nat → ClassId) (sz : Nat) (adM : Nat → Nat) (kM : Option Nat) (tM : Option Nat) (M : BC) (x1 : Int32) (x2 : Int32) (rO : Int64) (hf : f_X3_element M x1 x2 = some rO) : bMet (S := Unit) l yX3_element (ws_ yX3_element cX3_element 3 (some .long)) rm_X3_element D g sz [.ref (adM 0), .int x1, .int x2] [mW g adM kM tM M] (fun _ => True) (fun _ => some (.long rO)) (fun _ => [mW g adM kM tM M]) := by
  refine b_met (by decide) (Nat.le_of_ble_eq_true rfl) ?_
  intro p e s m args below meth c A Q ls hx hb hml hr hlk hown hname hts hE hl hW
  revert hW; generalize s.heap = H; intro hW
  have hl : lv_has ls 3 [(0, .ref (adM 0)), (1, .int x1), (2, .int x2)] := hl
  rw [f_X3_element] at hf
  refine lv_iload_n hx hb dX3_element_0 rfl (lv_at hl 1 rfl) ?_
  refine lv_i2l hx hb dX3_element_1 rfl ?_
  refine lv_lconst (v := 0) hx hb dX3_element_2 (by decide) ?_
  refine lv_ldc2 (v := 7) hx hb hown (hts _ q1566) dX3_element_3 ?_
  obtain ⟨r1, hc1, hf⟩ := o_b1s hf
  have hp1 : List.Perm [mW g adM kM tM M] ([] ++ [mW g adM kM tM M]) := b_perm [] [0] 1 rfl rfl rfl rfl
  refine b_call0 ⟨rfl, rfl⟩ (va_runS (As := [.long x1.toInt64, .long 0, .long 7]) (rest := []) ⟨hx, hb, hml, hown, hts⟩ (m_X3_in l D g H.size x1.toInt64 0 7 r1 hc1) (va_cwS 3 hts (lw_S q1567 q1568 q79 q1569) rfl rfl rfl (by decide +kernel) ⟨Nat.le_of_ble_eq_true rfl, Nat.le_of_ble_eq_true rfl⟩) (b_preS hW hp1) rfl rfl hl.1 rfl (lv_room (Nat.le_of_ble_eq_true rfl)) dX3_element_6 ⟨Nat.le_of_ble_eq_true rfl, Nat.le_of_ble_eq_true rfl⟩) hW hp1 (fun _ _ H locs hW => ?_)
  have hW : bW D g A s H locs [mW g adM kM tM M] := hW
  refine lv_if_eq (tgt := 51) hx hb dX3_element_9 (by decide) (fun c2 => ?_) (fun c2 => ?_)
  · have hf := o_t hf c2
    refine lv_lconst (v := 0) hx hb dX3_element_51 (by decide) ?_
    cases hf
    exact b_lret hx hb hr hlk hE hW () rfl trivial rfl dX3_element_52
  · have hf := o_f hf c2
    refine lv_aload_n hx hb dX3_element_12 rfl (lv_at hl 0 rfl) ?_
    refine b_get hx hb hts in_X3 hown hW 0 0 3 0 rfl mW_0 rfl (by decide) ⟨rfl, rfl, rfl⟩ (hts _ q1459) mW_g0 dX3_element_13 ?_
    refine lv_iload_n hx hb dX3_element_16 rfl (lv_at hl 1 rfl) ?_
    obtain ⟨h3, hf⟩ := o_cs hf
    refine b_iald hx hb hW 0 1 rfl mW_1 h3 dX3_element_17 ?_
    refine lv_iconst (v := 1) hx hb dX3_element_18 (by decide) ?_
    refine lv_icmp_ne (tgt := 51) hx hb dX3_element_19 (by decide) (fun c4 => ?_) (fun c4 => ?_)
    · have hf := o_f hf c4
      refine lv_lconst (v := 0) hx hb dX3_element_51 (by decide) ?_
      cases hf
      exact b_lret hx hb hr hlk hE hW () rfl trivial rfl dX3_element_52
    · have hf := o_t hf c4
      refine lv_iload_n hx hb dX3_element_22 rfl (lv_at hl 2 rfl) ?_
      refine lv_i2l hx hb dX3_element_23 rfl ?_
      refine lv_lconst (v := 0) hx hb dX3_element_24 (by decide) ?_
      refine lv_aload_n hx hb dX3_element_25 rfl (lv_at hl 0 rfl) ?_
      refine b_get hx hb hts in_X3 hown hW 0 0 3 2 rfl mW_0 rfl (by decide) ⟨rfl, rfl, rfl⟩ (hts _ q1461) mW_g2 dX3_element_26 ?_
      refine lv_iload_n hx hb dX3_element_29 rfl (lv_at hl 1 rfl) ?_
      refine b_iald hx hb hW 0 3 rfl mW_3 h3 dX3_element_30 ?_
      refine lv_iconst (v := 1) hx hb dX3_element_31 (by decide) ?_
      refine lv_isub hx hb dX3_element_32 ?_
      refine lv_i2l hx hb dX3_element_33 rfl ?_
      obtain ⟨r5, hc5, hf⟩ := o_b1s hf
      have hp5 : List.Perm [mW g adM kM tM M] ([] ++ [mW g adM kM tM M]) := b_perm [] [0] 1 rfl rfl rfl rfl
      refine b_call0 ⟨rfl, rfl⟩ (va_runS (As := [.long x2.toInt64, .long 0, .long (((M.1 3 (ix x1)) - 1).toInt64)]) (rest := []) ⟨hx, hb, hml, hown, hts⟩ (m_X3_in l D g H.size x2.toInt64 0 (((M.1 3 (ix x1)) - 1).toInt64) r5 hc5) (va_cwS 3 hts (lw_S q1567 q1568 q79 q1569) rfl rfl rfl (by decide +kernel) ⟨Nat.le_of_ble_eq_true rfl, Nat.le_of_ble_eq_true rfl⟩) (b_preS hW hp5) rfl rfl hl.1 rfl (lv_room (Nat.le_of_ble_eq_true rfl)) dX3_element_34 ⟨Nat.le_of_ble_eq_true rfl, Nat.le_of_ble_eq_true rfl⟩) hW hp5 (fun _ _ H locs hW => ?_)
      have hW : bW D g A s H locs [mW g adM kM tM M] := hW
      refine lv_if_eq (tgt := 51) hx hb dX3_element_37 (by decide) (fun c6 => ?_) (fun c6 => ?_)
      · have hf := o_t hf c6
        refine lv_lconst (v := 0) hx hb dX3_element_51 (by decide) ?_
        cases hf
        exact b_lret hx hb hr hlk hE hW () rfl trivial rfl dX3_element_52
      · have hf := o_f hf c6
        refine lv_aload_n hx hb dX3_element_40 rfl (lv_at hl 0 rfl) ?_
        refine b_get hx hb hts in_X3 hown hW 0 0 3 3 rfl mW_0 rfl (by decide) ⟨rfl, rfl, rfl⟩ (hts _ q1462) mW_g3 dX3_element_41 ?_
        refine lv_iload_n hx hb dX3_element_44 rfl (lv_at hl 1 rfl) ?_
        refine b_agrL hx hb hW 0 4 rfl mW_4 h3 dX3_element_45 ?_
        refine lv_iload_n hx hb dX3_element_46 rfl (lv_at hl 2 rfl) ?_
        obtain ⟨h7, hf⟩ := o_cs hf
        refine b_lald hx hb hW 0 (5 + ix x1) rfl (mW_r5 (inB_lt h3)) h7 dX3_element_47 ?_
        refine lv_goto (tgt := 52) hx hb dX3_element_48 (by decide) ?_
        cases hf
        exact b_lret hx hb hr hlk hE hW () rfl trivial rfl dX3_element_52
def f_X3_holds (M : BC) (x1 : Int32) : Option Int32 :=
 o_b1 (f_X3_in x1.toInt64 0 7) fun (r1 : Int32) =>
 (if r1 = 0 then
 some (-1)
 else
 o_ck (inB x1 8) ((if (M.1 1 (ix x1)) = 0 then
 some (-1)
 else
 (if (M.1 1 (ix x1)) = 1 then
 some (M.1 2 (ix x1))
 else
 some (10 + (M.1 14 (ix x1)))))))
abbrev rm_X3_holds : Room := { frames := 1, cells := 0, slots := 0, locals := 25 }
set_option maxHeartbeats 4000000 in
set_option maxRecDepth 100000 in
theorem m_X3_holds (l : Launch) (D : va_G) (g : Nat → ClassId) (sz : Nat) (adM : Nat → Nat) (kM : Option Nat) (tM : Option Nat) (M : BC) (x1 : Int32) (rO : Int32) (hf : f_X3_holds M x1 = some rO) : bMet (S := Unit) l yX3_holds (ws_ yX3_holds cX3_holds 2 (some .int)) rm_X3_holds D g sz [.ref (adM 0), .int x1] [mW g adM kM tM M] (fun _ => True) (fun _ => some (.int rO)) (fun _ => [mW g adM kM tM M]) := by
  refine b_met (by decide) (Nat.le_of_ble_eq_true rfl) ?_
  intro p e s m args below meth c A Q ls hx hb hml hr hlk hown hname hts hE hl hW
  revert hW; generalize s.heap = H; intro hW
  have hl : lv_has ls 2 [(0, .ref (adM 0)), (1, .int x1)] := hl
  rw [f_X3_holds] at hf
  refine lv_iload_n hx hb dX3_holds_0 rfl (lv_at hl 1 rfl) ?_
  refine lv_i2l hx hb dX3_holds_1 rfl ?_
  refine lv_lconst (v := 0) hx hb dX3_holds_2 (by decide) ?_
  refine lv_ldc2 (v := 7) hx hb hown (hts _ q1566) dX3_holds_3 ?_
  obtain ⟨r1, hc1, hf⟩ := o_b1s hf
  have hp1 : List.Perm [mW g adM kM tM M] ([] ++ [mW g adM kM tM M]) := b_perm [] [0] 1 rfl rfl rfl rfl
  refine b_call0 ⟨rfl, rfl⟩ (va_runS (As := [.long x1.toInt64, .long 0, .long 7]) (rest := []) ⟨hx, hb, hml, hown, hts⟩ (m_X3_in l D g H.size x1.toInt64 0 7 r1 hc1) (va_cwS 3 hts (lw_S q1567 q1568 q79 q1569) rfl rfl rfl (by decide +kernel) ⟨Nat.le_of_ble_eq_true rfl, Nat.le_of_ble_eq_true rfl⟩) (b_preS hW hp1) rfl rfl hl.1 rfl (lv_room (Nat.le_of_ble_eq_true rfl)) dX3_holds_6 ⟨Nat.le_of_ble_eq_true rfl, Nat.le_of_ble_eq_true rfl⟩) hW hp1 (fun _ _ H locs hW => ?_)
  have hW : bW D g A s H locs [mW g adM kM tM M] := hW
  refine lv_if_eq (tgt := 21) hx hb dX3_holds_9 (by decide) (fun c2 => ?_) (fun c2 => ?_)
  · have hf := o_t hf c2
    refine lv_iconst (v := (-1)) hx hb dX3_holds_21 (by decide) ?_
    cases hf
    exact b_iret hx hb hr hlk hE hW () rfl trivial rfl dX3_holds_22
  · have hf := o_f hf c2
    refine lv_aload_n hx hb dX3_holds_12 rfl (lv_at hl 0 rfl) ?_
    refine b_get hx hb hts in_X3 hown hW 0 0 3 0 rfl mW_0 rfl (by decide) ⟨rfl, rfl, rfl⟩ (hts _ q1459) mW_g0 dX3_holds_13 ?_
    refine lv_iload_n hx hb dX3_holds_16 rfl (lv_at hl 1 rfl) ?_
    obtain ⟨h3, hf⟩ := o_cs hf
    refine b_iald hx hb hW 0 1 rfl mW_1 h3 dX3_holds_17 ?_
    refine lv_if_ne (tgt := 23) hx hb dX3_holds_18 (by decide) (fun c4 => ?_) (fun c4 => ?_)
    · have hf := o_f hf c4
      refine lv_aload_n hx hb dX3_holds_23 rfl (lv_at hl 0 rfl) ?_
      refine b_get hx hb hts in_X3 hown hW 0 0 3 0 rfl mW_0 rfl (by decide) ⟨rfl, rfl, rfl⟩ (hts _ q1459) mW_g0 dX3_holds_24 ?_
      refine lv_iload_n hx hb dX3_holds_27 rfl (lv_at hl 1 rfl) ?_
      refine b_iald hx hb hW 0 1 rfl mW_1 h3 dX3_holds_28 ?_
      refine lv_iconst (v := 1) hx hb dX3_holds_29 (by decide) ?_
      refine lv_icmp_ne (tgt := 42) hx hb dX3_holds_30 (by decide) (fun c5 => ?_) (fun c5 => ?_)
      · have hf := o_f hf c5
        refine lv_bipush (v := 10) hx hb dX3_holds_42 (by decide) ?_
        refine lv_aload_n hx hb dX3_holds_44 rfl (lv_at hl 0 rfl) ?_
        refine b_get hx hb hts in_X3 hown hW 0 0 3 5 rfl mW_0 rfl (by decide) ⟨rfl, rfl, rfl⟩ (hts _ q1464) mW_g5 dX3_holds_45 ?_
        refine lv_iload_n hx hb dX3_holds_48 rfl (lv_at hl 1 rfl) ?_
        refine b_iald hx hb hW 0 14 rfl mW_14 h3 dX3_holds_49 ?_
        refine lv_iadd hx hb dX3_holds_50 ?_
        cases hf
        exact b_iret hx hb hr hlk hE hW () rfl trivial rfl dX3_holds_51
      · have hf := o_t hf c5
        refine lv_aload_n hx hb dX3_holds_33 rfl (lv_at hl 0 rfl) ?_
        refine b_get hx hb hts in_X3 hown hW 0 0 3 1 rfl mW_0 rfl (by decide) ⟨rfl, rfl, rfl⟩ (hts _ q1460) mW_g1 dX3_holds_34 ?_
        refine lv_iload_n hx hb dX3_holds_37 rfl (lv_at hl 1 rfl) ?_
        refine b_iald hx hb hW 0 2 rfl mW_2 h3 dX3_holds_38 ?_
        refine lv_goto (tgt := 51) hx hb dX3_holds_39 (by decide) ?_
        cases hf
        exact b_iret hx hb hr hlk hE hW () rfl trivial rfl dX3_holds_51
    · have hf := o_t hf c4
      refine lv_iconst (v := (-1)) hx hb dX3_holds_21 (by decide) ?_
      cases hf
      exact b_iret hx hb hr hlk hE hW () rfl trivial rfl dX3_holds_22
def f_X3_isGoer (M : BC) (x1 : Int32) : Option Int32 :=
 o_b1 (f_X3_in x1.toInt64 0 (((M.1 0 2) - 1).toInt64)) fun (r1 : Int32) =>
 o_ck (decide (r1 = 0) || decide (r1 = 1)) (some r1)
abbrev rm_X3_isGoer : Room := { frames := 1, cells := 0, slots := 0, locals := 25 }
set_option maxHeartbeats 4000000 in
set_option maxRecDepth 100000 in
theorem m_X3_isGoer (l : Launch) (D : va_G) (g : Nat → ClassId) (sz : Nat) (adM : Nat → Nat) (kM : Option Nat) (tM : Option Nat) (M : BC) (x1 : Int32) (rO : Int32) (hf : f_X3_isGoer M x1 = some rO) : bMet (S := Unit) l yX3_isGoer (ws_ yX3_isGoer cX3_isGoer 2 (some .boolean)) rm_X3_isGoer D g sz [.ref (adM 0), .int x1] [mW g adM kM tM M] (fun _ => True) (fun _ => some (.int rO)) (fun _ => [mW g adM kM tM M]) := by
  refine b_met (by decide) (Nat.le_of_ble_eq_true rfl) ?_
  intro p e s m args below meth c A Q ls hx hb hml hr hlk hown hname hts hE hl hW
  revert hW; generalize s.heap = H; intro hW
  have hl : lv_has ls 2 [(0, .ref (adM 0)), (1, .int x1)] := hl
  rw [f_X3_isGoer] at hf
  refine lv_iload_n hx hb dX3_isGoer_0 rfl (lv_at hl 1 rfl) ?_
  refine lv_i2l hx hb dX3_isGoer_1 rfl ?_
  refine lv_lconst (v := 0) hx hb dX3_isGoer_2 (by decide) ?_
  refine lv_aload_n hx hb dX3_isGoer_3 rfl (lv_at hl 0 rfl) ?_
  refine b_get hx hb hts in_X3 hown hW 0 0 3 11 rfl mW_0 rfl (by decide) ⟨rfl, rfl, rfl⟩ (hts _ q1470) mW_g11 dX3_isGoer_4 ?_
  refine lv_iconst (v := 1) hx hb dX3_isGoer_7 (by decide) ?_
  refine lv_isub hx hb dX3_isGoer_8 ?_
  refine lv_i2l hx hb dX3_isGoer_9 rfl ?_
  obtain ⟨r1, hc1, hf⟩ := o_b1s hf
  have hp1 : List.Perm [mW g adM kM tM M] ([] ++ [mW g adM kM tM M]) := b_perm [] [0] 1 rfl rfl rfl rfl
  refine b_call0 ⟨rfl, rfl⟩ (va_runS (As := [.long x1.toInt64, .long 0, .long (((M.1 0 2) - 1).toInt64)]) (rest := []) ⟨hx, hb, hml, hown, hts⟩ (m_X3_in l D g H.size x1.toInt64 0 (((M.1 0 2) - 1).toInt64) r1 hc1) (va_cwS 3 hts (lw_S q1567 q1568 q79 q1569) rfl rfl rfl (by decide +kernel) ⟨Nat.le_of_ble_eq_true rfl, Nat.le_of_ble_eq_true rfl⟩) (b_preS hW hp1) rfl rfl hl.1 rfl (lv_room (Nat.le_of_ble_eq_true rfl)) dX3_isGoer_10 ⟨Nat.le_of_ble_eq_true rfl, Nat.le_of_ble_eq_true rfl⟩) hW hp1 (fun _ _ H locs hW => ?_)
  have hW : bW D g A s H locs [mW g adM kM tM M] := hW
  obtain ⟨h2, hf⟩ := o_cs hf
  cases hf
  exact b_zret hx hb hr hlk hE hW () rfl trivial rfl h2 dX3_isGoer_13
def f_X3_show (M : BC) (x1 : Int32) (x2 : Int32) : Option (Int32 × BC) :=
 o_b1 (f_X3_in x1.toInt64 0 7) fun (r1 : Int32) =>
 (if r1 = 0 then
 o_b2 (f_X3_refuse M (-2)) fun (r3 : Int32) (M4 : BC) =>
 some (r3, M4)
 else
 (if x2 = (-1) then
 (if x2 = (-1) then
 o_ck (inB x1 8) (o_lt (bI M 1 (upd (M.1 1) (ix x1) 0)) fun (M11 : BC) =>
 o_lt (bI M11 14 (upd (M11.1 14) (ix x1) x2)) fun (M12 : BC) =>
 some (1, M12))
 else
 o_ck (inB x1 8) (o_lt (bI M 1 (upd (M.1 1) (ix x1) 2)) fun (M8 : BC) =>
 o_lt (bI M8 14 (upd (M8.1 14) (ix x1) x2)) fun (M9 : BC) =>
 some (1, M9)))
 else
 o_b1 (f_X3_isGoer M x2) fun (r13 : Int32) =>
 (if r13 = 0 then
 o_b2 (f_X3_refuse M (-2)) fun (r22 : Int32) (M23 : BC) =>
 some (r22, M23)
 else
 (if x2 = (-1) then
 o_ck (inB x1 8) (o_lt (bI M 1 (upd (M.1 1) (ix x1) 0)) fun (M20 : BC) =>
 o_lt (bI M20 14 (upd (M20.1 14) (ix x1) x2)) fun (M21 : BC) =>
 some (1, M21))
 else
 o_ck (inB x1 8) (o_lt (bI M 1 (upd (M.1 1) (ix x1) 2)) fun (M17 : BC) =>
 o_lt (bI M17 14 (upd (M17.1 14) (ix x1) x2)) fun (M18 : BC) =>
 some (1, M18))))))
abbrev rm_X3_show : Room := { frames := 2, cells := 0, slots := 0, locals := 46 }
set_option maxHeartbeats 4000000 in
set_option maxRecDepth 100000 in
theorem m_X3_show (l : Launch) (D : va_G) (g : Nat → ClassId) (sz : Nat) (adM : Nat → Nat) (kM : Option Nat) (tM : Option Nat) (M : BC) (x1 : Int32) (x2 : Int32) (rO : Int32) (MO : BC) (hf : f_X3_show M x1 x2 = some (rO, MO)) : bMet (S := Unit) l yX3_show (ws_ yX3_show cX3_show 3 (some .int)) rm_X3_show D g sz [.ref (adM 0), .int x1, .int x2] [mW g adM kM tM M] (fun _ => True) (fun _ => some (.int rO)) (fun _ => [mW g adM kM tM MO]) := by
  refine b_met (by decide) (Nat.le_of_ble_eq_true rfl) ?_
  intro p e s m args below meth c A Q ls hx hb hml hr hlk hown hname hts hE hl hW
  revert hW; generalize s.heap = H; intro hW
  have hl : lv_has ls 3 [(0, .ref (adM 0)), (1, .int x1), (2, .int x2)] := hl
  rw [f_X3_show] at hf
  refine lv_iload_n hx hb dX3_show_0 rfl (lv_at hl 1 rfl) ?_
  refine lv_i2l hx hb dX3_show_1 rfl ?_
  refine lv_lconst (v := 0) hx hb dX3_show_2 (by decide) ?_
  refine lv_ldc2 (v := 7) hx hb hown (hts _ q1566) dX3_show_3 ?_
  obtain ⟨r1, hc1, hf⟩ := o_b1s hf
  have hp1 : List.Perm [mW g adM kM tM M] ([] ++ [mW g adM kM tM M]) := b_perm [] [0] 1 rfl rfl rfl rfl
  refine b_call0 ⟨rfl, rfl⟩ (va_runS (As := [.long x1.toInt64, .long 0, .long 7]) (rest := []) ⟨hx, hb, hml, hown, hts⟩ (m_X3_in l D g H.size x1.toInt64 0 7 r1 hc1) (va_cwS 3 hts (lw_S q1567 q1568 q79 q1569) rfl rfl rfl (by decide +kernel) ⟨Nat.le_of_ble_eq_true rfl, Nat.le_of_ble_eq_true rfl⟩) (b_preS hW hp1) rfl rfl hl.1 rfl (lv_room (Nat.le_of_ble_eq_true rfl)) dX3_show_6 ⟨Nat.le_of_ble_eq_true rfl, Nat.le_of_ble_eq_true rfl⟩) hW hp1 (fun _ _ H locs hW => ?_)
  have hW : bW D g A s H locs [mW g adM kM tM M] := hW
  refine lv_if_eq (tgt := 25) hx hb dX3_show_9 (by decide) (fun c2 => ?_) (fun c2 => ?_)
  · have hf := o_t hf c2
    refine lv_aload_n hx hb dX3_show_25 rfl (lv_at hl 0 rfl) ?_
    refine lv_bipush (v := (-2)) hx hb dX3_show_26 (by decide) ?_
    obtain ⟨r3, M4, hc4, hf⟩ := o_b2s hf
    have hp4 : List.Perm [mW g adM kM tM M] ([mW g adM kM tM M] ++ []) := b_perm [0] [] 1 rfl rfl rfl rfl
    refine b_call0 ⟨rfl, rfl⟩ (va_runV (As := [.int (-2)]) (rest := []) ⟨hx, hb, hml, hown, hts⟩ (m_X3_refuse l D g H.size adM kM tM M (-2) r3 M4 hc4) (cwV 1 hts (lw_V q1572 q1574 qs33 q79 q1575) rfl rfl rfl (by decide +kernel) ⟨Nat.le_of_ble_eq_true rfl, Nat.le_of_ble_eq_true rfl⟩) (b_preV (pp := 0) (q := 0) hW hp4 rfl mW_0 rfl) rfl rfl hl.1 rfl (lv_room (Nat.le_of_ble_eq_true rfl)) dX3_show_28 ⟨Nat.le_of_ble_eq_true rfl, Nat.le_of_ble_eq_true rfl⟩) hW hp4 (fun _ _ H locs hW => ?_)
    have hW : bW D g A s H locs [mW g adM kM tM M4] := hW
    cases hf
    exact b_iret hx hb hr hlk hE hW () rfl trivial rfl dX3_show_31
  · have hf := o_f hf c2
    refine lv_iload_n hx hb dX3_show_12 rfl (lv_at hl 2 rfl) ?_
    refine lv_iconst (v := (-1)) hx hb dX3_show_13 (by decide) ?_
    refine lv_icmp_eq (tgt := 32) hx hb dX3_show_14 (by decide) (fun c5 => ?_) (fun c5 => ?_)
    · have hf := o_t hf c5
      refine lv_aload_n hx hb dX3_show_32 rfl (lv_at hl 0 rfl) ?_
      refine b_get hx hb hts in_X3 hown hW 0 0 3 0 rfl mW_0 rfl (by decide) ⟨rfl, rfl, rfl⟩ (hts _ q1459) mW_g0 dX3_show_33 ?_
      refine lv_iload_n hx hb dX3_show_36 rfl (lv_at hl 1 rfl) ?_
      refine lv_iload_n hx hb dX3_show_37 rfl (lv_at hl 2 rfl) ?_
      refine lv_iconst (v := (-1)) hx hb dX3_show_38 (by decide) ?_
      refine lv_icmp_ne (tgt := 46) hx hb dX3_show_39 (by decide) (fun c6 => ?_) (fun c6 => ?_)
      · have hf := o_f hf c6
        refine lv_iconst (v := 2) hx hb dX3_show_46 (by decide) ?_
        obtain ⟨h7, hf⟩ := o_cs hf
        obtain ⟨M8, eM8, hf⟩ := o_ls hf
        refine b_iast hx hb hW 0 1 rfl mW_1 (mW_s1 eM8) rfl h7 dX3_show_47 (fun H locs hW => ?_)
        have hW : bW D g A s H locs [mW g adM kM tM M8] := hW
        refine lv_aload_n hx hb dX3_show_48 rfl (lv_at hl 0 rfl) ?_
        refine b_get hx hb hts in_X3 hown hW 0 0 3 5 rfl mW_0 rfl (by decide) ⟨rfl, rfl, rfl⟩ (hts _ q1464) mW_g5 dX3_show_49 ?_
        refine lv_iload_n hx hb dX3_show_52 rfl (lv_at hl 1 rfl) ?_
        refine lv_iload_n hx hb dX3_show_53 rfl (lv_at hl 2 rfl) ?_
        obtain ⟨M9, eM9, hf⟩ := o_ls hf
        refine b_iast hx hb hW 0 14 rfl mW_14 (mW_s14 eM9) rfl h7 dX3_show_54 (fun H locs hW => ?_)
        have hW : bW D g A s H locs [mW g adM kM tM M9] := hW
        refine lv_iconst (v := 1) hx hb dX3_show_55 (by decide) ?_
        cases hf
        exact b_iret hx hb hr hlk hE hW () rfl trivial rfl dX3_show_56
      · have hf := o_t hf c6
        refine lv_iconst (v := 0) hx hb dX3_show_42 (by decide) ?_
        refine lv_goto (tgt := 47) hx hb dX3_show_43 (by decide) ?_
        obtain ⟨h10, hf⟩ := o_cs hf
        obtain ⟨M11, eM11, hf⟩ := o_ls hf
        refine b_iast hx hb hW 0 1 rfl mW_1 (mW_s1 eM11) rfl h10 dX3_show_47 (fun H locs hW => ?_)
        have hW : bW D g A s H locs [mW g adM kM tM M11] := hW
        refine lv_aload_n hx hb dX3_show_48 rfl (lv_at hl 0 rfl) ?_
        refine b_get hx hb hts in_X3 hown hW 0 0 3 5 rfl mW_0 rfl (by decide) ⟨rfl, rfl, rfl⟩ (hts _ q1464) mW_g5 dX3_show_49 ?_
        refine lv_iload_n hx hb dX3_show_52 rfl (lv_at hl 1 rfl) ?_
        refine lv_iload_n hx hb dX3_show_53 rfl (lv_at hl 2 rfl) ?_
        obtain ⟨M12, eM12, hf⟩ := o_ls hf
        refine b_iast hx hb hW 0 14 rfl mW_14 (mW_s14 eM12) rfl h10 dX3_show_54 (fun H locs hW => ?_)
        have hW : bW D g A s H locs [mW g adM kM tM M12] := hW
        refine lv_iconst (v := 1) hx hb dX3_show_55 (by decide) ?_
        cases hf
        exact b_iret hx hb hr hlk hE hW () rfl trivial rfl dX3_show_56
    · have hf := o_f hf c5
      refine lv_aload_n hx hb dX3_show_17 rfl (lv_at hl 0 rfl) ?_
      refine lv_iload_n hx hb dX3_show_18 rfl (lv_at hl 2 rfl) ?_
      obtain ⟨r13, hc13, hf⟩ := o_b1s hf
      have hp13 : List.Perm [mW g adM kM tM M] ([mW g adM kM tM M] ++ []) := b_perm [0] [] 1 rfl rfl rfl rfl
      refine b_call0 ⟨rfl, rfl⟩ (va_runV (As := [.int x2]) (rest := []) ⟨hx, hb, hml, hown, hts⟩ (m_X3_isGoer l D g H.size adM kM tM M x2 r13 hc13) (cwV 1 hts (lw_V q1603 q1605 qs35 q79 q1606) rfl rfl rfl (by decide +kernel) ⟨Nat.le_of_ble_eq_true rfl, Nat.le_of_ble_eq_true rfl⟩) (b_preV (pp := 0) (q := 0) hW hp13 rfl mW_0 rfl) rfl rfl hl.1 rfl (lv_room (Nat.le_of_ble_eq_true rfl)) dX3_show_19 ⟨Nat.le_of_ble_eq_true rfl, Nat.le_of_ble_eq_true rfl⟩) hW hp13 (fun _ _ H locs hW => ?_)
      have hW : bW D g A s H locs [mW g adM kM tM M] := hW
      refine lv_if_ne (tgt := 32) hx hb dX3_show_22 (by decide) (fun c14 => ?_) (fun c14 => ?_)
      · have hf := o_f hf c14
        refine lv_aload_n hx hb dX3_show_32 rfl (lv_at hl 0 rfl) ?_
        refine b_get hx hb hts in_X3 hown hW 0 0 3 0 rfl mW_0 rfl (by decide) ⟨rfl, rfl, rfl⟩ (hts _ q1459) mW_g0 dX3_show_33 ?_
        refine lv_iload_n hx hb dX3_show_36 rfl (lv_at hl 1 rfl) ?_
        refine lv_iload_n hx hb dX3_show_37 rfl (lv_at hl 2 rfl) ?_
        refine lv_iconst (v := (-1)) hx hb dX3_show_38 (by decide) ?_
        refine lv_icmp_ne (tgt := 46) hx hb dX3_show_39 (by decide) (fun c15 => ?_) (fun c15 => ?_)
        · have hf := o_f hf c15
          refine lv_iconst (v := 2) hx hb dX3_show_46 (by decide) ?_
          obtain ⟨h16, hf⟩ := o_cs hf
          obtain ⟨M17, eM17, hf⟩ := o_ls hf
          refine b_iast hx hb hW 0 1 rfl mW_1 (mW_s1 eM17) rfl h16 dX3_show_47 (fun H locs hW => ?_)
          have hW : bW D g A s H locs [mW g adM kM tM M17] := hW
          refine lv_aload_n hx hb dX3_show_48 rfl (lv_at hl 0 rfl) ?_
          refine b_get hx hb hts in_X3 hown hW 0 0 3 5 rfl mW_0 rfl (by decide) ⟨rfl, rfl, rfl⟩ (hts _ q1464) mW_g5 dX3_show_49 ?_
          refine lv_iload_n hx hb dX3_show_52 rfl (lv_at hl 1 rfl) ?_
          refine lv_iload_n hx hb dX3_show_53 rfl (lv_at hl 2 rfl) ?_
          obtain ⟨M18, eM18, hf⟩ := o_ls hf
          refine b_iast hx hb hW 0 14 rfl mW_14 (mW_s14 eM18) rfl h16 dX3_show_54 (fun H locs hW => ?_)
          have hW : bW D g A s H locs [mW g adM kM tM M18] := hW
          refine lv_iconst (v := 1) hx hb dX3_show_55 (by decide) ?_
          cases hf
          exact b_iret hx hb hr hlk hE hW () rfl trivial rfl dX3_show_56
        · have hf := o_t hf c15
          refine lv_iconst (v := 0) hx hb dX3_show_42 (by decide) ?_
          refine lv_goto (tgt := 47) hx hb dX3_show_43 (by decide) ?_
          obtain ⟨h19, hf⟩ := o_cs hf
          obtain ⟨M20, eM20, hf⟩ := o_ls hf
          refine b_iast hx hb hW 0 1 rfl mW_1 (mW_s1 eM20) rfl h19 dX3_show_47 (fun H locs hW => ?_)
          have hW : bW D g A s H locs [mW g adM kM tM M20] := hW
          refine lv_aload_n hx hb dX3_show_48 rfl (lv_at hl 0 rfl) ?_
          refine b_get hx hb hts in_X3 hown hW 0 0 3 5 rfl mW_0 rfl (by decide) ⟨rfl, rfl, rfl⟩ (hts _ q1464) mW_g5 dX3_show_49 ?_
          refine lv_iload_n hx hb dX3_show_52 rfl (lv_at hl 1 rfl) ?_
          refine lv_iload_n hx hb dX3_show_53 rfl (lv_at hl 2 rfl) ?_
          obtain ⟨M21, eM21, hf⟩ := o_ls hf
          refine b_iast hx hb hW 0 14 rfl mW_14 (mW_s14 eM21) rfl h19 dX3_show_54 (fun H locs hW => ?_)
          have hW : bW D g A s H locs [mW g adM kM tM M21] := hW
          refine lv_iconst (v := 1) hx hb dX3_show_55 (by decide) ?_
          cases hf
          exact b_iret hx hb hr hlk hE hW () rfl trivial rfl dX3_show_56
      · have hf := o_t hf c14
        refine lv_aload_n hx hb dX3_show_25 rfl (lv_at hl 0 rfl) ?_
        refine lv_bipush (v := (-2)) hx hb dX3_show_26 (by decide) ?_
        obtain ⟨r22, M23, hc23, hf⟩ := o_b2s hf
        have hp23 : List.Perm [mW g adM kM tM M] ([mW g adM kM tM M] ++ []) := b_perm [0] [] 1 rfl rfl rfl rfl
        refine b_call0 ⟨rfl, rfl⟩ (va_runV (As := [.int (-2)]) (rest := []) ⟨hx, hb, hml, hown, hts⟩ (m_X3_refuse l D g H.size adM kM tM M (-2) r22 M23 hc23) (cwV 1 hts (lw_V q1572 q1574 qs33 q79 q1575) rfl rfl rfl (by decide +kernel) ⟨Nat.le_of_ble_eq_true rfl, Nat.le_of_ble_eq_true rfl⟩) (b_preV (pp := 0) (q := 0) hW hp23 rfl mW_0 rfl) rfl rfl hl.1 rfl (lv_room (Nat.le_of_ble_eq_true rfl)) dX3_show_28 ⟨Nat.le_of_ble_eq_true rfl, Nat.le_of_ble_eq_true rfl⟩) hW hp23 (fun _ _ H locs hW => ?_)
        have hW : bW D g A s H locs [mW g adM kM tM M23] := hW
        cases hf
        exact b_iret hx hb hr hlk hE hW () rfl trivial rfl dX3_show_31
def f_X3_booked (M : BC) (x1 : Int32) : Option Int32 :=
 o_lt (x1 - (2 * (M.1 0 3))) fun (v1 : Int32) =>
 (if x1 = (-1) then
 some 0
 else
 (if (0 : Int32) ≤ v1 then
 some v1
 else
 some 0))
abbrev rm_X3_booked : Room := { frames := 0, cells := 0, slots := 0, locals := 0 }
set_option maxHeartbeats 4000000 in
set_option maxRecDepth 100000 in
theorem m_X3_booked (l : Launch) (D : va_G) (g : Nat → ClassId) (sz : Nat) (adM : Nat → Nat) (kM : Option Nat) (tM : Option Nat) (M : BC) (x1 : Int32) (rO : Int32) (hf : f_X3_booked M x1 = some rO) : bMet (S := Unit) l yX3_booked (ws_ yX3_booked cX3_booked 3 (some .int)) rm_X3_booked D g sz [.ref (adM 0), .int x1] [mW g adM kM tM M] (fun _ => True) (fun _ => some (.int rO)) (fun _ => [mW g adM kM tM M]) := by
  refine b_met (by decide) (Nat.le_of_ble_eq_true rfl) ?_
  intro p e s m args below meth c A Q ls hx hb hml hr hlk hown hname hts hE hl hW
  revert hW; generalize s.heap = H; intro hW
  have hl : lv_has ls 3 [(0, .ref (adM 0)), (1, .int x1)] := hl
  rw [f_X3_booked] at hf
  refine lv_iload_n hx hb dX3_booked_0 rfl (lv_at hl 1 rfl) ?_
  refine lv_iconst (v := 2) hx hb dX3_booked_1 (by decide) ?_
  refine lv_aload_n hx hb dX3_booked_2 rfl (lv_at hl 0 rfl) ?_
  refine b_get hx hb hts in_X3 hown hW 0 0 3 13 rfl mW_0 rfl (by decide) ⟨rfl, rfl, rfl⟩ (hts _ q1472) mW_g13 dX3_booked_3 ?_
  refine lv_imul hx hb dX3_booked_6 ?_
  refine lv_isub hx hb dX3_booked_7 ?_
  obtain ⟨v1, ev1, hf⟩ := o_ls hf
  refine b_topi ev1 ?_
  refine lv_istore_n (lv' := [(2, .int v1), (0, .ref (adM 0)), (1, .int x1)]) hx hb dX3_booked_8 rfl hl (by decide) rfl (fun ls hl => ?_)
  refine lv_iload_n hx hb dX3_booked_9 rfl (lv_at hl 2 rfl) ?_
  refine lv_iconst (v := (-1)) hx hb dX3_booked_10 (by decide) ?_
  refine lv_icmp_eq (tgt := 18) hx hb dX3_booked_11 (by decide) (fun c2 => ?_) (fun c2 => ?_)
  · have hf := o_t hf c2
    refine lv_iconst (v := 0) hx hb dX3_booked_18 (by decide) ?_
    refine lv_goto (tgt := 23) hx hb dX3_booked_19 (by decide) ?_
    cases hf
    exact b_iret hx hb hr hlk hE hW () rfl trivial rfl dX3_booked_23
  · have hf := o_f hf c2
    refine lv_iload_n hx hb dX3_booked_14 rfl (lv_at hl 0 rfl) ?_
    refine lv_if_ge (tgt := 22) hx hb dX3_booked_15 (by decide) (fun c3 => ?_) (fun c3 => ?_)
    · have hf := o_t hf c3
      refine lv_iload_n hx hb dX3_booked_22 rfl (lv_at hl 0 rfl) ?_
      cases hf
      exact b_iret hx hb hr hlk hE hW () rfl trivial rfl dX3_booked_23
    · have hf := o_f hf c3
      refine lv_iconst (v := 0) hx hb dX3_booked_18 (by decide) ?_
      refine lv_goto (tgt := 23) hx hb dX3_booked_19 (by decide) ?_
      cases hf
      exact b_iret hx hb hr hlk hE hW () rfl trivial rfl dX3_booked_23
def f_X3_scoreBy (M : BC) (x1 : Int32) (x2 : Int32) (x3 : Int32) : Option Int32 :=
 o_ck (inB x2 6) (o_ck (inB x1 6) (o_lt (M.1 (25 + ix x1) (ix 2)) fun (v3 : Int32) =>
 o_lt (M.1 (25 + ix x1) (ix 0)) fun (v4 : Int32) =>
 (if v4 = 0 then
 some (100 - (M.1 (18 + ix x2) (ix 3)))
 else
 (if v4 = 1 then
 o_b1 (f_X3_booked M x3) fun (r7 : Int32) =>
 some r7
 else
 (if v4 = 2 then
 (if x3 = (-1) then
 some (100 - (M.1 (18 + ix x2) (ix 3)))
 else
 o_b1 (f_X3_booked M x3) fun (r10 : Int32) =>
 some (r10 - v3))
 else
 (if v4 = 3 then
 some ((M.1 (18 + ix x2) (ix 0)) - ((M.1 (18 + ix x2) (ix 3)) / 2))
 else
 (if v4 = 4 then
 (if (M.1 (18 + ix x2) (ix 5)) < v3 then
 o_b1 (f_X3_booked M x3) fun (r14 : Int32) =>
 some r14
 else
 (if (M.1 (18 + ix x2) (ix 5)) ≤ 0 then
 o_b1 (f_X3_booked M x3) fun (r16 : Int32) =>
 some r16
 else
 o_ck (!decide ((M.1 (18 + ix x2) (ix 5)) = 0)) (some ((M.1 (18 + ix x2) (ix 6)) / (M.1 (18 + ix x2) (ix 5))))))
 else
 o_b1 (f_X3_booked M x3) fun (r18 : Int32) =>
 some r18)))))))
abbrev rm_X3_scoreBy : Room := { frames := 1, cells := 0, slots := 0, locals := 22 }
set_option maxHeartbeats 4000000 in
set_option maxRecDepth 100000 in
theorem m_X3_scoreBy (l : Launch) (D : va_G) (g : Nat → ClassId) (sz : Nat) (adM : Nat → Nat) (kM : Option Nat) (tM : Option Nat) (M : BC) (x1 : Int32) (x2 : Int32) (x3 : Int32) (rO : Int32) (hf : f_X3_scoreBy M x1 x2 x3 = some rO) : bMet (S := Unit) l yX3_scoreBy (ws_ yX3_scoreBy cX3_scoreBy 6 (some .int)) rm_X3_scoreBy D g sz [.ref (adM 0), .int x1, .int x2, .int x3] [mW g adM kM tM M] (fun _ => True) (fun _ => some (.int rO)) (fun _ => [mW g adM kM tM M]) := by
  refine b_met (by decide) (Nat.le_of_ble_eq_true rfl) ?_
  intro p e s m args below meth c A Q ls hx hb hml hr hlk hown hname hts hE hl hW
  revert hW; generalize s.heap = H; intro hW
  have hl : lv_has ls 6 [(0, .ref (adM 0)), (1, .int x1), (2, .int x2), (3, .int x3)] := hl
  rw [f_X3_scoreBy] at hf
  refine lv_aload_n hx hb dX3_scoreBy_0 rfl (lv_at hl 0 rfl) ?_
  refine b_get hx hb hts in_X3 hown hW 0 0 3 10 rfl mW_0 rfl (by decide) ⟨rfl, rfl, rfl⟩ (hts _ q1469) mW_g10 dX3_scoreBy_1 ?_
  refine lv_iload_n hx hb dX3_scoreBy_4 rfl (lv_at hl 2 rfl) ?_
  obtain ⟨h1, hf⟩ := o_cs hf
  refine b_agrI hx hb hW 0 17 rfl mW_17 h1 dX3_scoreBy_5 ?_
  refine lv_astore (lv' := [(4, .ref (adM (18 + ix x2))), (0, .ref (adM 0)), (1, .int x1), (2, .int x2), (3, .int x3)]) hx hb dX3_scoreBy_6 hl (by decide) rfl (fun ls hl => ?_)
  refine lv_aload_n hx hb dX3_scoreBy_8 rfl (lv_at hl 1 rfl) ?_
  refine b_get hx hb hts in_X3 hown hW 0 0 3 12 rfl mW_0 rfl (by decide) ⟨rfl, rfl, rfl⟩ (hts _ q1471) mW_g12 dX3_scoreBy_9 ?_
  refine lv_iload_n hx hb dX3_scoreBy_12 rfl (lv_at hl 2 rfl) ?_
  obtain ⟨h2, hf⟩ := o_cs hf
  refine b_agrI hx hb hW 0 24 rfl mW_24 h2 dX3_scoreBy_13 ?_
  refine lv_iconst (v := 2) hx hb dX3_scoreBy_14 (by decide) ?_
  refine b_iald hx hb hW 0 (25 + ix x1) rfl (mW_r25 (inB_lt h2)) (by decide) dX3_scoreBy_15 ?_
  obtain ⟨v3, ev3, hf⟩ := o_ls hf
  refine b_topi ev3 ?_
  refine lv_istore (lv' := [(5, .int v3), (4, .ref (adM (18 + ix x2))), (0, .ref (adM 0)), (1, .int x1), (2, .int x2), (3, .int x3)]) hx hb dX3_scoreBy_16 hl (by decide) rfl (fun ls hl => ?_)
  refine lv_aload_n hx hb dX3_scoreBy_18 rfl (lv_at hl 2 rfl) ?_
  refine b_get hx hb hts in_X3 hown hW 0 0 3 12 rfl mW_0 rfl (by decide) ⟨rfl, rfl, rfl⟩ (hts _ q1471) mW_g12 dX3_scoreBy_19 ?_
  refine lv_iload_n hx hb dX3_scoreBy_22 rfl (lv_at hl 3 rfl) ?_
  refine b_agrI hx hb hW 0 24 rfl mW_24 h2 dX3_scoreBy_23 ?_
  refine lv_iconst (v := 0) hx hb dX3_scoreBy_24 (by decide) ?_
  refine b_iald hx hb hW 0 (25 + ix x1) rfl (mW_r25 (inB_lt h2)) (by decide) dX3_scoreBy_25 ?_
  obtain ⟨v4, ev4, hf⟩ := o_ls hf
  refine b_topi ev4 ?_
  by_cases c5 : v4 = 0
  · have hf := o_t hf c5
    refine lv_tableIn (off := 34) (tgt := 60) hx hb dX3_scoreBy_26 (by rw [c5]; decide) (by rw [c5]; decide) (by rw [c5]; rfl) (by decide) ?_
    refine lv_bipush (v := 100) hx hb dX3_scoreBy_60 (by decide) ?_
    refine lv_aload hx hb dX3_scoreBy_62 (lv_at hl 1 rfl) ?_
    refine lv_iconst (v := 3) hx hb dX3_scoreBy_64 (by decide) ?_
    refine b_iald hx hb hW 0 (18 + ix x2) rfl (mW_r18 (inB_lt h1)) (by decide) dX3_scoreBy_65 ?_
    refine lv_isub hx hb dX3_scoreBy_66 ?_
    cases hf
    exact b_iret hx hb hr hlk hE hW () rfl trivial rfl dX3_scoreBy_67
  · have hf := o_f hf c5
    by_cases c6 : v4 = 1
    · have hf := o_t hf c6
      refine lv_tableIn (off := 113) (tgt := 139) hx hb dX3_scoreBy_26 (by rw [c6]; decide) (by rw [c6]; decide) (by rw [c6]; rfl) (by decide) ?_
      refine lv_aload_n hx hb dX3_scoreBy_139 rfl (lv_at hl 2 rfl) ?_
      refine lv_iload_n hx hb dX3_scoreBy_140 rfl (lv_at hl 5 rfl) ?_
      obtain ⟨r7, hc7, hf⟩ := o_b1s hf
      have hp7 : List.Perm [mW g adM kM tM M] ([mW g adM kM tM M] ++ []) := b_perm [0] [] 1 rfl rfl rfl rfl
      refine b_call0 ⟨rfl, rfl⟩ (va_runV (As := [.int x3]) (rest := []) ⟨hx, hb, hml, hown, hts⟩ (m_X3_booked l D g H.size adM kM tM M x3 r7 hc7) (cwV 1 hts (lw_V q1627 q1629 qs39 q79 q1630) rfl rfl rfl (by decide +kernel) ⟨Nat.le_of_ble_eq_true rfl, Nat.le_of_ble_eq_true rfl⟩) (b_preV (pp := 0) (q := 0) hW hp7 rfl mW_0 rfl) rfl rfl hl.1 rfl (lv_room (Nat.le_of_ble_eq_true rfl)) dX3_scoreBy_141 ⟨Nat.le_of_ble_eq_true rfl, Nat.le_of_ble_eq_true rfl⟩) hW hp7 (fun _ _ H locs hW => ?_)
      have hW : bW D g A s H locs [mW g adM kM tM M] := hW
      cases hf
      exact b_iret hx hb hr hlk hE hW () rfl trivial rfl dX3_scoreBy_144
    · have hf := o_f hf c6
      by_cases c8 : v4 = 2
      · have hf := o_t hf c8
        refine lv_tableIn (off := 42) (tgt := 68) hx hb dX3_scoreBy_26 (by rw [c8]; decide) (by rw [c8]; decide) (by rw [c8]; rfl) (by decide) ?_
        refine lv_iload_n hx hb dX3_scoreBy_68 rfl (lv_at hl 5 rfl) ?_
        refine lv_iconst (v := (-1)) hx hb dX3_scoreBy_69 (by decide) ?_
        refine lv_icmp_ne (tgt := 83) hx hb dX3_scoreBy_70 (by decide) (fun c9 => ?_) (fun c9 => ?_)
        · have hf := o_f hf c9
          refine lv_aload_n hx hb dX3_scoreBy_83 rfl (lv_at hl 2 rfl) ?_
          refine lv_iload_n hx hb dX3_scoreBy_84 rfl (lv_at hl 5 rfl) ?_
          obtain ⟨r10, hc10, hf⟩ := o_b1s hf
          have hp10 : List.Perm [mW g adM kM tM M] ([mW g adM kM tM M] ++ []) := b_perm [0] [] 1 rfl rfl rfl rfl
          refine b_call0 ⟨rfl, rfl⟩ (va_runV (As := [.int x3]) (rest := []) ⟨hx, hb, hml, hown, hts⟩ (m_X3_booked l D g H.size adM kM tM M x3 r10 hc10) (cwV 1 hts (lw_V q1627 q1629 qs39 q79 q1630) rfl rfl rfl (by decide +kernel) ⟨Nat.le_of_ble_eq_true rfl, Nat.le_of_ble_eq_true rfl⟩) (b_preV (pp := 0) (q := 0) hW hp10 rfl mW_0 rfl) rfl rfl hl.1 rfl (lv_room (Nat.le_of_ble_eq_true rfl)) dX3_scoreBy_85 ⟨Nat.le_of_ble_eq_true rfl, Nat.le_of_ble_eq_true rfl⟩) hW hp10 (fun _ _ H locs hW => ?_)
          have hW : bW D g A s H locs [mW g adM kM tM M] := hW
          refine lv_iload hx hb dX3_scoreBy_88 (lv_at hl 0 rfl) ?_
          refine lv_isub hx hb dX3_scoreBy_90 ?_
          cases hf
          exact b_iret hx hb hr hlk hE hW () rfl trivial rfl dX3_scoreBy_91
        · have hf := o_t hf c9
          refine lv_bipush (v := 100) hx hb dX3_scoreBy_73 (by decide) ?_
          refine lv_aload hx hb dX3_scoreBy_75 (lv_at hl 1 rfl) ?_
          refine lv_iconst (v := 3) hx hb dX3_scoreBy_77 (by decide) ?_
          refine b_iald hx hb hW 0 (18 + ix x2) rfl (mW_r18 (inB_lt h1)) (by decide) dX3_scoreBy_78 ?_
          refine lv_isub hx hb dX3_scoreBy_79 ?_
          refine lv_goto (tgt := 91) hx hb dX3_scoreBy_80 (by decide) ?_
          cases hf
          exact b_iret hx hb hr hlk hE hW () rfl trivial rfl dX3_scoreBy_91
      · have hf := o_f hf c8
        by_cases c11 : v4 = 3
        · have hf := o_t hf c11
          refine lv_tableIn (off := 66) (tgt := 92) hx hb dX3_scoreBy_26 (by rw [c11]; decide) (by rw [c11]; decide) (by rw [c11]; rfl) (by decide) ?_
          refine lv_aload hx hb dX3_scoreBy_92 (lv_at hl 1 rfl) ?_
          refine lv_iconst (v := 0) hx hb dX3_scoreBy_94 (by decide) ?_
          refine b_iald hx hb hW 0 (18 + ix x2) rfl (mW_r18 (inB_lt h1)) (by decide) dX3_scoreBy_95 ?_
          refine lv_aload hx hb dX3_scoreBy_96 (lv_at hl 1 rfl) ?_
          refine lv_iconst (v := 3) hx hb dX3_scoreBy_98 (by decide) ?_
          refine b_iald hx hb hW 0 (18 + ix x2) rfl (mW_r18 (inB_lt h1)) (by decide) dX3_scoreBy_99 ?_
          refine lv_iconst (v := 2) hx hb dX3_scoreBy_100 (by decide) ?_
          refine lv_idiv hx hb dX3_scoreBy_101 (by decide) ?_
          refine lv_isub hx hb dX3_scoreBy_102 ?_
          cases hf
          exact b_iret hx hb hr hlk hE hW () rfl trivial rfl dX3_scoreBy_103
        · have hf := o_f hf c11
          by_cases c12 : v4 = 4
          · have hf := o_t hf c12
            refine lv_tableIn (off := 78) (tgt := 104) hx hb dX3_scoreBy_26 (by rw [c12]; decide) (by rw [c12]; decide) (by rw [c12]; rfl) (by decide) ?_
            refine lv_aload hx hb dX3_scoreBy_104 (lv_at hl 1 rfl) ?_
            refine lv_iconst (v := 5) hx hb dX3_scoreBy_106 (by decide) ?_
            refine b_iald hx hb hW 0 (18 + ix x2) rfl (mW_r18 (inB_lt h1)) (by decide) dX3_scoreBy_107 ?_
            refine lv_iload hx hb dX3_scoreBy_108 (lv_at hl 0 rfl) ?_
            refine lv_icmp_lt (tgt := 133) hx hb dX3_scoreBy_110 (by decide) (fun c13 => ?_) (fun c13 => ?_)
            · have hf := o_t hf c13
              refine lv_aload_n hx hb dX3_scoreBy_133 rfl (lv_at hl 2 rfl) ?_
              refine lv_iload_n hx hb dX3_scoreBy_134 rfl (lv_at hl 5 rfl) ?_
              obtain ⟨r14, hc14, hf⟩ := o_b1s hf
              have hp14 : List.Perm [mW g adM kM tM M] ([mW g adM kM tM M] ++ []) := b_perm [0] [] 1 rfl rfl rfl rfl
              refine b_call0 ⟨rfl, rfl⟩ (va_runV (As := [.int x3]) (rest := []) ⟨hx, hb, hml, hown, hts⟩ (m_X3_booked l D g H.size adM kM tM M x3 r14 hc14) (cwV 1 hts (lw_V q1627 q1629 qs39 q79 q1630) rfl rfl rfl (by decide +kernel) ⟨Nat.le_of_ble_eq_true rfl, Nat.le_of_ble_eq_true rfl⟩) (b_preV (pp := 0) (q := 0) hW hp14 rfl mW_0 rfl) rfl rfl hl.1 rfl (lv_room (Nat.le_of_ble_eq_true rfl)) dX3_scoreBy_135 ⟨Nat.le_of_ble_eq_true rfl, Nat.le_of_ble_eq_true rfl⟩) hW hp14 (fun _ _ H locs hW => ?_)
              have hW : bW D g A s H locs [mW g adM kM tM M] := hW
              cases hf
              exact b_iret hx hb hr hlk hE hW () rfl trivial rfl dX3_scoreBy_138
            · have hf := o_f hf c13
              refine lv_aload hx hb dX3_scoreBy_113 (lv_at hl 1 rfl) ?_
              refine lv_iconst (v := 5) hx hb dX3_scoreBy_115 (by decide) ?_
              refine b_iald hx hb hW 0 (18 + ix x2) rfl (mW_r18 (inB_lt h1)) (by decide) dX3_scoreBy_116 ?_
              refine lv_if_le (tgt := 133) hx hb dX3_scoreBy_117 (by decide) (fun c15 => ?_) (fun c15 => ?_)
              · have hf := o_t hf c15
                refine lv_aload_n hx hb dX3_scoreBy_133 rfl (lv_at hl 2 rfl) ?_
                refine lv_iload_n hx hb dX3_scoreBy_134 rfl (lv_at hl 5 rfl) ?_
                obtain ⟨r16, hc16, hf⟩ := o_b1s hf
                have hp16 : List.Perm [mW g adM kM tM M] ([mW g adM kM tM M] ++ []) := b_perm [0] [] 1 rfl rfl rfl rfl
                refine b_call0 ⟨rfl, rfl⟩ (va_runV (As := [.int x3]) (rest := []) ⟨hx, hb, hml, hown, hts⟩ (m_X3_booked l D g H.size adM kM tM M x3 r16 hc16) (cwV 1 hts (lw_V q1627 q1629 qs39 q79 q1630) rfl rfl rfl (by decide +kernel) ⟨Nat.le_of_ble_eq_true rfl, Nat.le_of_ble_eq_true rfl⟩) (b_preV (pp := 0) (q := 0) hW hp16 rfl mW_0 rfl) rfl rfl hl.1 rfl (lv_room (Nat.le_of_ble_eq_true rfl)) dX3_scoreBy_135 ⟨Nat.le_of_ble_eq_true rfl, Nat.le_of_ble_eq_true rfl⟩) hW hp16 (fun _ _ H locs hW => ?_)
                have hW : bW D g A s H locs [mW g adM kM tM M] := hW
                cases hf
                exact b_iret hx hb hr hlk hE hW () rfl trivial rfl dX3_scoreBy_138
              · have hf := o_f hf c15
                refine lv_aload hx hb dX3_scoreBy_120 (lv_at hl 1 rfl) ?_
                refine lv_bipush (v := 6) hx hb dX3_scoreBy_122 (by decide) ?_
                refine b_iald hx hb hW 0 (18 + ix x2) rfl (mW_r18 (inB_lt h1)) (by decide) dX3_scoreBy_124 ?_
                refine lv_aload hx hb dX3_scoreBy_125 (lv_at hl 1 rfl) ?_
                refine lv_iconst (v := 5) hx hb dX3_scoreBy_127 (by decide) ?_
                refine b_iald hx hb hW 0 (18 + ix x2) rfl (mW_r18 (inB_lt h1)) (by decide) dX3_scoreBy_128 ?_
                obtain ⟨h17, hf⟩ := o_cs hf
                refine lv_idiv hx hb dX3_scoreBy_129 (o_nz h17) ?_
                refine lv_goto (tgt := 138) hx hb dX3_scoreBy_130 (by decide) ?_
                cases hf
                exact b_iret hx hb hr hlk hE hW () rfl trivial rfl dX3_scoreBy_138
          · have hf := o_f hf c12
            refine lv_tableOut (tgt := 139) hx hb dX3_scoreBy_26 (by have := lv_neT c5 (a := 0) (by decide); have := lv_neT c6 (a := 1) (by decide); have := lv_neT c8 (a := 2) (by decide); have := lv_neT c11 (a := 3) (by decide); have := lv_neT c12 (a := 4) (by decide); omega) (by decide) ?_
            refine lv_aload_n hx hb dX3_scoreBy_139 rfl (lv_at hl 2 rfl) ?_
            refine lv_iload_n hx hb dX3_scoreBy_140 rfl (lv_at hl 5 rfl) ?_
            obtain ⟨r18, hc18, hf⟩ := o_b1s hf
            have hp18 : List.Perm [mW g adM kM tM M] ([mW g adM kM tM M] ++ []) := b_perm [0] [] 1 rfl rfl rfl rfl
            refine b_call0 ⟨rfl, rfl⟩ (va_runV (As := [.int x3]) (rest := []) ⟨hx, hb, hml, hown, hts⟩ (m_X3_booked l D g H.size adM kM tM M x3 r18 hc18) (cwV 1 hts (lw_V q1627 q1629 qs39 q79 q1630) rfl rfl rfl (by decide +kernel) ⟨Nat.le_of_ble_eq_true rfl, Nat.le_of_ble_eq_true rfl⟩) (b_preV (pp := 0) (q := 0) hW hp18 rfl mW_0 rfl) rfl rfl hl.1 rfl (lv_room (Nat.le_of_ble_eq_true rfl)) dX3_scoreBy_141 ⟨Nat.le_of_ble_eq_true rfl, Nat.le_of_ble_eq_true rfl⟩) hW hp18 (fun _ _ H locs hW => ?_)
            have hW : bW D g A s H locs [mW g adM kM tM M] := hW
            cases hf
            exact b_iret hx hb hr hlk hE hW () rfl trivial rfl dX3_scoreBy_144
def f_X3_scoreOf (M : BC) (x1 : Int32) (x2 : Int32) : Option Int32 :=
 o_ck (inB x2 6) (o_b1 (f_X3_scoreBy M x1 x2 (M.1 (18 + ix x2) (ix 4))) fun (r2 : Int32) =>
 some r2)
abbrev rm_X3_scoreOf : Room := { frames := 2, cells := 0, slots := 0, locals := 47 }
set_option maxHeartbeats 4000000 in
set_option maxRecDepth 100000 in
theorem m_X3_scoreOf (l : Launch) (D : va_G) (g : Nat → ClassId) (sz : Nat) (adM : Nat → Nat) (kM : Option Nat) (tM : Option Nat) (M : BC) (x1 : Int32) (x2 : Int32) (rO : Int32) (hf : f_X3_scoreOf M x1 x2 = some rO) : bMet (S := Unit) l yX3_scoreOf (ws_ yX3_scoreOf cX3_scoreOf 3 (some .int)) rm_X3_scoreOf D g sz [.ref (adM 0), .int x1, .int x2] [mW g adM kM tM M] (fun _ => True) (fun _ => some (.int rO)) (fun _ => [mW g adM kM tM M]) := by
  refine b_met (by decide) (Nat.le_of_ble_eq_true rfl) ?_
  intro p e s m args below meth c A Q ls hx hb hml hr hlk hown hname hts hE hl hW
  revert hW; generalize s.heap = H; intro hW
  have hl : lv_has ls 3 [(0, .ref (adM 0)), (1, .int x1), (2, .int x2)] := hl
  rw [f_X3_scoreOf] at hf
  refine lv_aload_n hx hb dX3_scoreOf_0 rfl (lv_at hl 0 rfl) ?_
  refine lv_iload_n hx hb dX3_scoreOf_1 rfl (lv_at hl 1 rfl) ?_
  refine lv_iload_n hx hb dX3_scoreOf_2 rfl (lv_at hl 2 rfl) ?_
  refine lv_aload_n hx hb dX3_scoreOf_3 rfl (lv_at hl 0 rfl) ?_
  refine b_get hx hb hts in_X3 hown hW 0 0 3 10 rfl mW_0 rfl (by decide) ⟨rfl, rfl, rfl⟩ (hts _ q1469) mW_g10 dX3_scoreOf_4 ?_
  refine lv_iload_n hx hb dX3_scoreOf_7 rfl (lv_at hl 2 rfl) ?_
  obtain ⟨h1, hf⟩ := o_cs hf
  refine b_agrI hx hb hW 0 17 rfl mW_17 h1 dX3_scoreOf_8 ?_
  refine lv_iconst (v := 4) hx hb dX3_scoreOf_9 (by decide) ?_
  refine b_iald hx hb hW 0 (18 + ix x2) rfl (mW_r18 (inB_lt h1)) (by decide) dX3_scoreOf_10 ?_
  obtain ⟨r2, hc2, hf⟩ := o_b1s hf
  have hp2 : List.Perm [mW g adM kM tM M] ([mW g adM kM tM M] ++ []) := b_perm [0] [] 1 rfl rfl rfl rfl
  refine b_call0 ⟨rfl, rfl⟩ (va_runV (As := [.int x1, .int x2, .int (M.1 (18 + ix x2) (ix 4))]) (rest := []) ⟨hx, hb, hml, hown, hts⟩ (m_X3_scoreBy l D g H.size adM kM tM M x1 x2 (M.1 (18 + ix x2) (ix 4)) r2 hc2) (cwV 3 hts (lw_V q1623 q1625 qs38 q79 q1626) rfl rfl rfl (by decide +kernel) ⟨Nat.le_of_ble_eq_true rfl, Nat.le_of_ble_eq_true rfl⟩) (b_preV (pp := 0) (q := 0) hW hp2 rfl mW_0 rfl) rfl rfl hl.1 rfl (lv_room (Nat.le_of_ble_eq_true rfl)) dX3_scoreOf_11 ⟨Nat.le_of_ble_eq_true rfl, Nat.le_of_ble_eq_true rfl⟩) hW hp2 (fun _ _ H locs hW => ?_)
  have hW : bW D g A s H locs [mW g adM kM tM M] := hW
  cases hf
  exact b_iret hx hb hr hlk hE hW () rfl trivial rfl dX3_scoreOf_14
def f_X3_choiceOf_L4 (M : BC) (x1 : Int32) (rec1 : (Int32 × Int32) → Option Int32) : Int32 × Int32 → Option Int32
  | (v2, v3) =>
    (if (M.1 0 1) ≤ v3 then
     some v2
     else
     (if v2 = (-1) then
     o_lt (v3 + 1) fun (v6 : Int32) =>
     rec1 (v3, v6)
     else
     o_b1 (f_X3_scoreOf M x1 v3) fun (r7 : Int32) =>
     o_b1 (f_X3_scoreOf M x1 v2) fun (r8 : Int32) =>
     (if r7 ≤ r8 then
     o_lt (v3 + 1) fun (v10 : Int32) =>
     rec1 (v2, v10)
     else
     o_lt (v3 + 1) fun (v11 : Int32) =>
     rec1 (v3, v11))))
def f_X3_choiceOf (fu : Nat) (M : BC) (x1 : Int32) : Option Int32 :=
 o_lp (f_X3_choiceOf_L4 M x1) fu ((-1), 0)
abbrev rm_X3_choiceOf : Room := { frames := 3, cells := 0, slots := 0, locals := 69 }
set_option maxHeartbeats 4000000 in
set_option maxRecDepth 100000 in
theorem m_X3_choiceOf (l : Launch) (D : va_G) (g : Nat → ClassId) (sz : Nat) (adM : Nat → Nat) (kM : Option Nat) (tM : Option Nat) (fu : Nat) (M : BC) (x1 : Int32) (rO : Int32) (hf : f_X3_choiceOf fu M x1 = some rO) : bMet (S := Unit) l yX3_choiceOf (ws_ yX3_choiceOf cX3_choiceOf 4 (some .int)) rm_X3_choiceOf D g sz [.ref (adM 0), .int x1] [mW g adM kM tM M] (fun _ => True) (fun _ => some (.int rO)) (fun _ => [mW g adM kM tM M]) := by
  refine b_met (by decide) (Nat.le_of_ble_eq_true rfl) ?_
  intro p e s m args below meth c A Q ls hx hb hml hr hlk hown hname hts hE hl hW
  revert hW; generalize s.heap = H; intro hW
  have hl : lv_has ls 4 [(0, .ref (adM 0)), (1, .int x1)] := hl
  rw [f_X3_choiceOf] at hf
  refine lv_iconst (v := (-1)) hx hb dX3_choiceOf_0 (by decide) ?_
  refine lv_istore_n (lv' := [(2, .int (-1)), (0, .ref (adM 0)), (1, .int x1)]) hx hb dX3_choiceOf_1 rfl hl (by decide) rfl (fun ls hl => ?_)
  refine lv_iconst (v := 0) hx hb dX3_choiceOf_2 (by decide) ?_
  refine lv_istore_n (lv' := [(3, .int 0), (2, .int (-1)), (0, .ref (adM 0)), (1, .int x1)]) hx hb dX3_choiceOf_3 rfl hl (by decide) rfl (fun ls hl => ?_)
  obtain ⟨stp1, est1, hf⟩ := o_ln hf
  have L1 : ∀ (n : Nat) (v2 : Int32) (v3 : Int32) (H : Heap) (locs : List Loc) (ls : Array Slot), bW D g A s H locs [mW g adM kM tM M] → lv_has ls 4 [(3, .int v3), (2, .int v2), (0, .ref (adM 0)), (1, .int x1)] → o_lp stp1 n (v2, v3) = some rO → W p l e rm_X3_choiceOf s m args below meth c H locs 0 0 Q (F0 m 4 ls []) := by
    intro n1
    induction n1 with
    | zero => intro v2 v3 H locs ls hW hl hf; exact (o_lz hf).elim
    | succ n1 ih1 =>
      intro v2 v3 H locs ls hW hl hf
      have hf := o_lu est1 hf
      rw [f_X3_choiceOf_L4] at hf
      refine lv_iload_n hx hb dX3_choiceOf_4 rfl (lv_at hl 0 rfl) ?_
      refine lv_aload_n hx hb dX3_choiceOf_5 rfl (lv_at hl 2 rfl) ?_
      refine b_get hx hb hts in_X3 hown hW 0 0 3 9 rfl mW_0 rfl (by decide) ⟨rfl, rfl, rfl⟩ (hts _ q1468) mW_g9 dX3_choiceOf_6 ?_
      refine lv_icmp_ge (tgt := 44) hx hb dX3_choiceOf_9 (by decide) (fun c4 => ?_) (fun c4 => ?_)
      · have hf := o_t hf c4
        refine lv_iload_n hx hb dX3_choiceOf_44 rfl (lv_at hl 1 rfl) ?_
        cases hf
        exact b_iret hx hb hr hlk hE hW () rfl trivial rfl dX3_choiceOf_45
      · have hf := o_f hf c4
        refine lv_iload_n hx hb dX3_choiceOf_12 rfl (lv_at hl 1 rfl) ?_
        refine lv_iconst (v := (-1)) hx hb dX3_choiceOf_13 (by decide) ?_
        refine lv_icmp_eq (tgt := 32) hx hb dX3_choiceOf_14 (by decide) (fun c5 => ?_) (fun c5 => ?_)
        · have hf := o_t hf c5
          refine lv_iload_n hx hb dX3_choiceOf_32 rfl (lv_at hl 0 rfl) ?_
          refine lv_goto (tgt := 37) hx hb dX3_choiceOf_33 (by decide) ?_
          refine lv_istore_n (lv' := [(2, .int v3), (3, .int v3), (0, .ref (adM 0)), (1, .int x1)]) hx hb dX3_choiceOf_37 rfl hl (by decide) rfl (fun ls hl => ?_)
          obtain ⟨v6, ev6, hf⟩ := o_ls hf
          refine lv_iinc (v := v6) (lv' := [(3, .int v6), (2, .int v3), (0, .ref (adM 0)), (1, .int x1)]) hx hb dX3_choiceOf_38 hl (k := 1) rfl ev6 (by decide) rfl (fun ls hl => ?_)
          refine lv_goto (tgt := 4) hx hb dX3_choiceOf_41 (by decide) ?_
          exact ih1 _ _ _ _ _ hW (lv_sub hl [0, 1, 2, 3] rfl) hf
        · have hf := o_f hf c5
          refine lv_aload_n hx hb dX3_choiceOf_17 rfl (lv_at hl 2 rfl) ?_
          refine lv_iload_n hx hb dX3_choiceOf_18 rfl (lv_at hl 3 rfl) ?_
          refine lv_iload_n hx hb dX3_choiceOf_19 rfl (lv_at hl 0 rfl) ?_
          obtain ⟨r7, hc7, hf⟩ := o_b1s hf
          have hp7 : List.Perm [mW g adM kM tM M] ([mW g adM kM tM M] ++ []) := b_perm [0] [] 1 rfl rfl rfl rfl
          refine b_call0 ⟨rfl, rfl⟩ (va_runV (As := [.int x1, .int v3]) (rest := []) ⟨hx, hb, hml, hown, hts⟩ (m_X3_scoreOf l D g H.size adM kM tM M x1 v3 r7 hc7) (cwV 2 hts (lw_V q1619 q1621 qs37 q79 q1622) rfl rfl rfl (by decide +kernel) ⟨Nat.le_of_ble_eq_true rfl, Nat.le_of_ble_eq_true rfl⟩) (b_preV (pp := 0) (q := 0) hW hp7 rfl mW_0 rfl) rfl rfl hl.1 rfl (lv_room (Nat.le_of_ble_eq_true rfl)) dX3_choiceOf_20 ⟨Nat.le_of_ble_eq_true rfl, Nat.le_of_ble_eq_true rfl⟩) hW hp7 (fun _ _ H locs hW => ?_)
          have hW : bW D g A s H locs [mW g adM kM tM M] := hW
          refine lv_aload_n hx hb dX3_choiceOf_23 rfl (lv_at hl 2 rfl) ?_
          refine lv_iload_n hx hb dX3_choiceOf_24 rfl (lv_at hl 3 rfl) ?_
          refine lv_iload_n hx hb dX3_choiceOf_25 rfl (lv_at hl 1 rfl) ?_
          obtain ⟨r8, hc8, hf⟩ := o_b1s hf
          have hp8 : List.Perm [mW g adM kM tM M] ([mW g adM kM tM M] ++ []) := b_perm [0] [] 1 rfl rfl rfl rfl
          refine b_call0 ⟨rfl, rfl⟩ (va_runV (As := [.int x1, .int v2]) (rest := [.int r7]) ⟨hx, hb, hml, hown, hts⟩ (m_X3_scoreOf l D g H.size adM kM tM M x1 v2 r8 hc8) (cwV 2 hts (lw_V q1619 q1621 qs37 q79 q1622) rfl rfl rfl (by decide +kernel) ⟨Nat.le_of_ble_eq_true rfl, Nat.le_of_ble_eq_true rfl⟩) (b_preV (pp := 0) (q := 0) hW hp8 rfl mW_0 rfl) rfl rfl hl.1 rfl (lv_room (Nat.le_of_ble_eq_true rfl)) dX3_choiceOf_26 ⟨Nat.le_of_ble_eq_true rfl, Nat.le_of_ble_eq_true rfl⟩) hW hp8 (fun _ _ H locs hW => ?_)
          have hW : bW D g A s H locs [mW g adM kM tM M] := hW
          refine lv_icmp_le (tgt := 36) hx hb dX3_choiceOf_29 (by decide) (fun c9 => ?_) (fun c9 => ?_)
          · have hf := o_t hf c9
            refine lv_iload_n hx hb dX3_choiceOf_36 rfl (lv_at hl 1 rfl) ?_
            refine lv_istore_n (lv' := [(2, .int v2), (3, .int v3), (0, .ref (adM 0)), (1, .int x1)]) hx hb dX3_choiceOf_37 rfl hl (by decide) rfl (fun ls hl => ?_)
            obtain ⟨v10, ev10, hf⟩ := o_ls hf
            refine lv_iinc (v := v10) (lv' := [(3, .int v10), (2, .int v2), (0, .ref (adM 0)), (1, .int x1)]) hx hb dX3_choiceOf_38 hl (k := 1) rfl ev10 (by decide) rfl (fun ls hl => ?_)
            refine lv_goto (tgt := 4) hx hb dX3_choiceOf_41 (by decide) ?_
            exact ih1 _ _ _ _ _ hW (lv_sub hl [0, 1, 2, 3] rfl) hf
          · have hf := o_f hf c9
            refine lv_iload_n hx hb dX3_choiceOf_32 rfl (lv_at hl 0 rfl) ?_
            refine lv_goto (tgt := 37) hx hb dX3_choiceOf_33 (by decide) ?_
            refine lv_istore_n (lv' := [(2, .int v3), (3, .int v3), (0, .ref (adM 0)), (1, .int x1)]) hx hb dX3_choiceOf_37 rfl hl (by decide) rfl (fun ls hl => ?_)
            obtain ⟨v11, ev11, hf⟩ := o_ls hf
            refine lv_iinc (v := v11) (lv' := [(3, .int v11), (2, .int v3), (0, .ref (adM 0)), (1, .int x1)]) hx hb dX3_choiceOf_38 hl (k := 1) rfl ev11 (by decide) rfl (fun ls hl => ?_)
            refine lv_goto (tgt := 4) hx hb dX3_choiceOf_41 (by decide) ?_
            exact ih1 _ _ _ _ _ hW (lv_sub hl [0, 1, 2, 3] rfl) hf
  exact L1 _ _ _ _ _ _ hW (lv_sub hl [0, 1, 2, 3] rfl) hf
def f_X3_isUnder (x1 : Int32) (x2 : Int32) : Option Int32 :=
 (if x2 = 0 then
 some 1
 else
 (if x1 = x2 then
 some 1
 else
 (if x2 = 1 then
 (if x1 = 0 then
 some 0
 else
 (if x1 = 3 then
 some 0
 else
 some 1))
 else
 some 0)))
abbrev rm_X3_isUnder : Room := { frames := 0, cells := 0, slots := 0, locals := 0 }
set_option maxHeartbeats 4000000 in
set_option maxRecDepth 100000 in
theorem m_X3_isUnder (l : Launch) (D : va_G) (g : Nat → ClassId) (sz : Nat)  (x1 : Int32) (x2 : Int32) (rO : Int32) (hf : f_X3_isUnder x1 x2 = some rO) : bMet (S := Unit) l yX3_isUnder (ws_ yX3_isUnder cX3_isUnder 2 (some .boolean)) rm_X3_isUnder D g sz [.int x1, .int x2] [] (fun _ => True) (fun _ => some (.int rO)) (fun _ => []) := by
  refine b_met (by decide) (Nat.le_of_ble_eq_true rfl) ?_
  intro p e s m args below meth c A Q ls hx hb hml hr hlk hown hname hts hE hl hW
  revert hW; generalize s.heap = H; intro hW
  have hl : lv_has ls 2 [(0, .int x1), (1, .int x2)] := hl
  rw [f_X3_isUnder] at hf
  refine lv_iload_n hx hb dX3_isUnder_0 rfl (lv_at hl 1 rfl) ?_
  refine lv_if_eq (tgt := 23) hx hb dX3_isUnder_1 (by decide) (fun c1 => ?_) (fun c1 => ?_)
  · have hf := o_t hf c1
    refine lv_iconst (v := 1) hx hb dX3_isUnder_23 (by decide) ?_
    refine lv_goto (tgt := 28) hx hb dX3_isUnder_24 (by decide) ?_
    cases hf
    exact b_zret hx hb hr hlk hE hW () rfl trivial rfl (by decide) dX3_isUnder_28
  · have hf := o_f hf c1
    refine lv_iload_n hx hb dX3_isUnder_4 rfl (lv_at hl 0 rfl) ?_
    refine lv_iload_n hx hb dX3_isUnder_5 rfl (lv_at hl 1 rfl) ?_
    refine lv_icmp_eq (tgt := 23) hx hb dX3_isUnder_6 (by decide) (fun c2 => ?_) (fun c2 => ?_)
    · have hf := o_t hf c2
      refine lv_iconst (v := 1) hx hb dX3_isUnder_23 (by decide) ?_
      refine lv_goto (tgt := 28) hx hb dX3_isUnder_24 (by decide) ?_
      cases hf
      exact b_zret hx hb hr hlk hE hW () rfl trivial rfl (by decide) dX3_isUnder_28
    · have hf := o_f hf c2
      refine lv_iload_n hx hb dX3_isUnder_9 rfl (lv_at hl 1 rfl) ?_
      refine lv_iconst (v := 1) hx hb dX3_isUnder_10 (by decide) ?_
      refine lv_icmp_ne (tgt := 27) hx hb dX3_isUnder_11 (by decide) (fun c3 => ?_) (fun c3 => ?_)
      · have hf := o_f hf c3
        refine lv_iconst (v := 0) hx hb dX3_isUnder_27 (by decide) ?_
        cases hf
        exact b_zret hx hb hr hlk hE hW () rfl trivial rfl (by decide) dX3_isUnder_28
      · have hf := o_t hf c3
        refine lv_iload_n hx hb dX3_isUnder_14 rfl (lv_at hl 0 rfl) ?_
        refine lv_if_eq (tgt := 27) hx hb dX3_isUnder_15 (by decide) (fun c4 => ?_) (fun c4 => ?_)
        · have hf := o_t hf c4
          refine lv_iconst (v := 0) hx hb dX3_isUnder_27 (by decide) ?_
          cases hf
          exact b_zret hx hb hr hlk hE hW () rfl trivial rfl (by decide) dX3_isUnder_28
        · have hf := o_f hf c4
          refine lv_iload_n hx hb dX3_isUnder_18 rfl (lv_at hl 0 rfl) ?_
          refine lv_iconst (v := 3) hx hb dX3_isUnder_19 (by decide) ?_
          refine lv_icmp_eq (tgt := 27) hx hb dX3_isUnder_20 (by decide) (fun c5 => ?_) (fun c5 => ?_)
          · have hf := o_t hf c5
            refine lv_iconst (v := 0) hx hb dX3_isUnder_27 (by decide) ?_
            cases hf
            exact b_zret hx hb hr hlk hE hW () rfl trivial rfl (by decide) dX3_isUnder_28
          · have hf := o_f hf c5
            refine lv_iconst (v := 1) hx hb dX3_isUnder_23 (by decide) ?_
            refine lv_goto (tgt := 28) hx hb dX3_isUnder_24 (by decide) ?_
            cases hf
            exact b_zret hx hb hr hlk hE hW () rfl trivial rfl (by decide) dX3_isUnder_28
def f_X3_says (fu : Nat) (M : BC) (x1 : Int32) (x2 : Int32) : Option (Int32 × BC) :=
 o_b1 (f_X3_in x1.toInt64 0 7) fun (r1 : Int32) =>
 (if r1 = 0 then
 o_b2 (f_X3_refuse M (-2)) fun (r3 : Int32) (M4 : BC) =>
 some (r3, M4)
 else
 o_b1 (f_X3_in x2.toInt64 0 5) fun (r5 : Int32) =>
 (if r5 = 0 then
 o_b2 (f_X3_refuse M (-2)) fun (r28 : Int32) (M29 : BC) =>
 some (r28, M29)
 else
 o_ck (inB x1 8) ((if (M.1 1 (ix x1)) = 1 then
 o_b2 (f_X3_refuse M (-3)) fun (r9 : Int32) (M10 : BC) =>
 some (r9, M10)
 else
 (if (M.1 1 (ix x1)) = 2 then
 o_ck (inB (M.1 14 (ix x1)) 6) (o_b1 (f_X3_isUnder (M.1 (25 + ix (M.1 14 (ix x1))) (ix 0)) x2) fun (r19 : Int32) =>
 (if r19 = 0 then
 o_b2 (f_X3_refuse M (-3)) fun (r26 : Int32) (M27 : BC) =>
 some (r26, M27)
 else
 (if (M.1 1 (ix x1)) = 0 then
 o_b2 (f_X3_refuse M (-4)) fun (r24 : Int32) (M25 : BC) =>
 some (r24, M25)
 else
 (if x2 = 0 then
 some (M.1 (25 + ix (M.1 14 (ix x1))) (ix 1), M)
 else
 o_b1 (f_X3_choiceOf fu M (M.1 14 (ix x1))) fun (r23 : Int32) =>
 some (r23, M)))))
 else
 (if (M.1 1 (ix x1)) = 0 then
 o_b2 (f_X3_refuse M (-4)) fun (r16 : Int32) (M17 : BC) =>
 some (r16, M17)
 else
 (if x2 = 0 then
 o_ck (inB (M.1 14 (ix x1)) 6) (some (M.1 (25 + ix (M.1 14 (ix x1))) (ix 1), M))
 else
 o_b1 (f_X3_choiceOf fu M (M.1 14 (ix x1))) fun (r14 : Int32) =>
 some (r14, M))))))))
abbrev rm_X3_says : Room := { frames := 4, cells := 0, slots := 0, locals := 92 }
set_option maxHeartbeats 4000000 in
set_option maxRecDepth 100000 in
theorem m_X3_says (l : Launch) (D : va_G) (g : Nat → ClassId) (sz : Nat) (adM : Nat → Nat) (kM : Option Nat) (tM : Option Nat) (fu : Nat) (M : BC) (x1 : Int32) (x2 : Int32) (rO : Int32) (MO : BC) (hf : f_X3_says fu M x1 x2 = some (rO, MO)) : bMet (S := Unit) l yX3_says (ws_ yX3_says cX3_says 3 (some .int)) rm_X3_says D g sz [.ref (adM 0), .int x1, .int x2] [mW g adM kM tM M] (fun _ => True) (fun _ => some (.int rO)) (fun _ => [mW g adM kM tM MO]) := by
  refine b_met (by decide) (Nat.le_of_ble_eq_true rfl) ?_
  intro p e s m args below meth c A Q ls hx hb hml hr hlk hown hname hts hE hl hW
  revert hW; generalize s.heap = H; intro hW
  have hl : lv_has ls 3 [(0, .ref (adM 0)), (1, .int x1), (2, .int x2)] := hl
  rw [f_X3_says] at hf
  refine lv_iload_n hx hb dX3_says_0 rfl (lv_at hl 1 rfl) ?_
  refine lv_i2l hx hb dX3_says_1 rfl ?_
  refine lv_lconst (v := 0) hx hb dX3_says_2 (by decide) ?_
  refine lv_ldc2 (v := 7) hx hb hown (hts _ q1566) dX3_says_3 ?_
  obtain ⟨r1, hc1, hf⟩ := o_b1s hf
  have hp1 : List.Perm [mW g adM kM tM M] ([] ++ [mW g adM kM tM M]) := b_perm [] [0] 1 rfl rfl rfl rfl
  refine b_call0 ⟨rfl, rfl⟩ (va_runS (As := [.long x1.toInt64, .long 0, .long 7]) (rest := []) ⟨hx, hb, hml, hown, hts⟩ (m_X3_in l D g H.size x1.toInt64 0 7 r1 hc1) (va_cwS 3 hts (lw_S q1567 q1568 q79 q1569) rfl rfl rfl (by decide +kernel) ⟨Nat.le_of_ble_eq_true rfl, Nat.le_of_ble_eq_true rfl⟩) (b_preS hW hp1) rfl rfl hl.1 rfl (lv_room (Nat.le_of_ble_eq_true rfl)) dX3_says_6 ⟨Nat.le_of_ble_eq_true rfl, Nat.le_of_ble_eq_true rfl⟩) hW hp1 (fun _ _ H locs hW => ?_)
  have hW : bW D g A s H locs [mW g adM kM tM M] := hW
  refine lv_if_eq (tgt := 24) hx hb dX3_says_9 (by decide) (fun c2 => ?_) (fun c2 => ?_)
  · have hf := o_t hf c2
    refine lv_aload_n hx hb dX3_says_24 rfl (lv_at hl 0 rfl) ?_
    refine lv_bipush (v := (-2)) hx hb dX3_says_25 (by decide) ?_
    obtain ⟨r3, M4, hc4, hf⟩ := o_b2s hf
    have hp4 : List.Perm [mW g adM kM tM M] ([mW g adM kM tM M] ++ []) := b_perm [0] [] 1 rfl rfl rfl rfl
    refine b_call0 ⟨rfl, rfl⟩ (va_runV (As := [.int (-2)]) (rest := []) ⟨hx, hb, hml, hown, hts⟩ (m_X3_refuse l D g H.size adM kM tM M (-2) r3 M4 hc4) (cwV 1 hts (lw_V q1572 q1574 qs33 q79 q1575) rfl rfl rfl (by decide +kernel) ⟨Nat.le_of_ble_eq_true rfl, Nat.le_of_ble_eq_true rfl⟩) (b_preV (pp := 0) (q := 0) hW hp4 rfl mW_0 rfl) rfl rfl hl.1 rfl (lv_room (Nat.le_of_ble_eq_true rfl)) dX3_says_27 ⟨Nat.le_of_ble_eq_true rfl, Nat.le_of_ble_eq_true rfl⟩) hW hp4 (fun _ _ H locs hW => ?_)
    have hW : bW D g A s H locs [mW g adM kM tM M4] := hW
    cases hf
    exact b_iret hx hb hr hlk hE hW () rfl trivial rfl dX3_says_30
  · have hf := o_f hf c2
    refine lv_iload_n hx hb dX3_says_12 rfl (lv_at hl 2 rfl) ?_
    refine lv_i2l hx hb dX3_says_13 rfl ?_
    refine lv_lconst (v := 0) hx hb dX3_says_14 (by decide) ?_
    refine lv_ldc2 (v := 5) hx hb hown (hts _ q1611) dX3_says_15 ?_
    obtain ⟨r5, hc5, hf⟩ := o_b1s hf
    have hp5 : List.Perm [mW g adM kM tM M] ([] ++ [mW g adM kM tM M]) := b_perm [] [0] 1 rfl rfl rfl rfl
    refine b_call0 ⟨rfl, rfl⟩ (va_runS (As := [.long x2.toInt64, .long 0, .long 5]) (rest := []) ⟨hx, hb, hml, hown, hts⟩ (m_X3_in l D g H.size x2.toInt64 0 5 r5 hc5) (va_cwS 3 hts (lw_S q1567 q1568 q79 q1569) rfl rfl rfl (by decide +kernel) ⟨Nat.le_of_ble_eq_true rfl, Nat.le_of_ble_eq_true rfl⟩) (b_preS hW hp5) rfl rfl hl.1 rfl (lv_room (Nat.le_of_ble_eq_true rfl)) dX3_says_18 ⟨Nat.le_of_ble_eq_true rfl, Nat.le_of_ble_eq_true rfl⟩) hW hp5 (fun _ _ H locs hW => ?_)
    have hW : bW D g A s H locs [mW g adM kM tM M] := hW
    refine lv_if_ne (tgt := 31) hx hb dX3_says_21 (by decide) (fun c6 => ?_) (fun c6 => ?_)
    · have hf := o_f hf c6
      refine lv_aload_n hx hb dX3_says_31 rfl (lv_at hl 0 rfl) ?_
      refine b_get hx hb hts in_X3 hown hW 0 0 3 0 rfl mW_0 rfl (by decide) ⟨rfl, rfl, rfl⟩ (hts _ q1459) mW_g0 dX3_says_32 ?_
      refine lv_iload_n hx hb dX3_says_35 rfl (lv_at hl 1 rfl) ?_
      obtain ⟨h7, hf⟩ := o_cs hf
      refine b_iald hx hb hW 0 1 rfl mW_1 h7 dX3_says_36 ?_
      refine lv_iconst (v := 1) hx hb dX3_says_37 (by decide) ?_
      refine lv_icmp_eq (tgt := 71) hx hb dX3_says_38 (by decide) (fun c8 => ?_) (fun c8 => ?_)
      · have hf := o_t hf c8
        refine lv_aload_n hx hb dX3_says_71 rfl (lv_at hl 0 rfl) ?_
        refine lv_bipush (v := (-3)) hx hb dX3_says_72 (by decide) ?_
        obtain ⟨r9, M10, hc10, hf⟩ := o_b2s hf
        have hp10 : List.Perm [mW g adM kM tM M] ([mW g adM kM tM M] ++ []) := b_perm [0] [] 1 rfl rfl rfl rfl
        refine b_call0 ⟨rfl, rfl⟩ (va_runV (As := [.int (-3)]) (rest := []) ⟨hx, hb, hml, hown, hts⟩ (m_X3_refuse l D g H.size adM kM tM M (-3) r9 M10 hc10) (cwV 1 hts (lw_V q1572 q1574 qs33 q79 q1575) rfl rfl rfl (by decide +kernel) ⟨Nat.le_of_ble_eq_true rfl, Nat.le_of_ble_eq_true rfl⟩) (b_preV (pp := 0) (q := 0) hW hp10 rfl mW_0 rfl) rfl rfl hl.1 rfl (lv_room (Nat.le_of_ble_eq_true rfl)) dX3_says_74 ⟨Nat.le_of_ble_eq_true rfl, Nat.le_of_ble_eq_true rfl⟩) hW hp10 (fun _ _ H locs hW => ?_)
        have hW : bW D g A s H locs [mW g adM kM tM M10] := hW
        cases hf
        exact b_iret hx hb hr hlk hE hW () rfl trivial rfl dX3_says_77
      · have hf := o_f hf c8
        refine lv_aload_n hx hb dX3_says_41 rfl (lv_at hl 0 rfl) ?_
        refine b_get hx hb hts in_X3 hown hW 0 0 3 0 rfl mW_0 rfl (by decide) ⟨rfl, rfl, rfl⟩ (hts _ q1459) mW_g0 dX3_says_42 ?_
        refine lv_iload_n hx hb dX3_says_45 rfl (lv_at hl 1 rfl) ?_
        refine b_iald hx hb hW 0 1 rfl mW_1 h7 dX3_says_46 ?_
        refine lv_iconst (v := 2) hx hb dX3_says_47 (by decide) ?_
        refine lv_icmp_ne (tgt := 78) hx hb dX3_says_48 (by decide) (fun c11 => ?_) (fun c11 => ?_)
        · have hf := o_f hf c11
          refine lv_aload_n hx hb dX3_says_78 rfl (lv_at hl 0 rfl) ?_
          refine b_get hx hb hts in_X3 hown hW 0 0 3 0 rfl mW_0 rfl (by decide) ⟨rfl, rfl, rfl⟩ (hts _ q1459) mW_g0 dX3_says_79 ?_
          refine lv_iload_n hx hb dX3_says_82 rfl (lv_at hl 1 rfl) ?_
          refine b_iald hx hb hW 0 1 rfl mW_1 h7 dX3_says_83 ?_
          refine lv_if_ne (tgt := 94) hx hb dX3_says_84 (by decide) (fun c12 => ?_) (fun c12 => ?_)
          · have hf := o_f hf c12
            refine lv_iload_n hx hb dX3_says_94 rfl (lv_at hl 2 rfl) ?_
            refine lv_if_ne (tgt := 114) hx hb dX3_says_95 (by decide) (fun c13 => ?_) (fun c13 => ?_)
            · have hf := o_f hf c13
              refine lv_aload_n hx hb dX3_says_114 rfl (lv_at hl 0 rfl) ?_
              refine lv_aload_n hx hb dX3_says_115 rfl (lv_at hl 0 rfl) ?_
              refine b_get hx hb hts in_X3 hown hW 0 0 3 5 rfl mW_0 rfl (by decide) ⟨rfl, rfl, rfl⟩ (hts _ q1464) mW_g5 dX3_says_116 ?_
              refine lv_iload_n hx hb dX3_says_119 rfl (lv_at hl 1 rfl) ?_
              refine b_iald hx hb hW 0 14 rfl mW_14 h7 dX3_says_120 ?_
              obtain ⟨r14, hc14, hf⟩ := o_b1s hf
              have hp14 : List.Perm [mW g adM kM tM M] ([mW g adM kM tM M] ++ []) := b_perm [0] [] 1 rfl rfl rfl rfl
              refine b_call0 ⟨rfl, rfl⟩ (va_runV (As := [.int (M.1 14 (ix x1))]) (rest := []) ⟨hx, hb, hml, hown, hts⟩ (m_X3_choiceOf l D g H.size adM kM tM fu M (M.1 14 (ix x1)) r14 hc14) (cwV 1 hts (lw_V q1615 q1617 qs36 q79 q1618) rfl rfl rfl (by decide +kernel) ⟨Nat.le_of_ble_eq_true rfl, Nat.le_of_ble_eq_true rfl⟩) (b_preV (pp := 0) (q := 0) hW hp14 rfl mW_0 rfl) rfl rfl hl.1 rfl (lv_room (Nat.le_of_ble_eq_true rfl)) dX3_says_121 ⟨Nat.le_of_ble_eq_true rfl, Nat.le_of_ble_eq_true rfl⟩) hW hp14 (fun _ _ H locs hW => ?_)
              have hW : bW D g A s H locs [mW g adM kM tM M] := hW
              cases hf
              exact b_iret hx hb hr hlk hE hW () rfl trivial rfl dX3_says_124
            · have hf := o_t hf c13
              refine lv_aload_n hx hb dX3_says_98 rfl (lv_at hl 0 rfl) ?_
              refine b_get hx hb hts in_X3 hown hW 0 0 3 12 rfl mW_0 rfl (by decide) ⟨rfl, rfl, rfl⟩ (hts _ q1471) mW_g12 dX3_says_99 ?_
              refine lv_aload_n hx hb dX3_says_102 rfl (lv_at hl 0 rfl) ?_
              refine b_get hx hb hts in_X3 hown hW 0 0 3 5 rfl mW_0 rfl (by decide) ⟨rfl, rfl, rfl⟩ (hts _ q1464) mW_g5 dX3_says_103 ?_
              refine lv_iload_n hx hb dX3_says_106 rfl (lv_at hl 1 rfl) ?_
              refine b_iald hx hb hW 0 14 rfl mW_14 h7 dX3_says_107 ?_
              obtain ⟨h15, hf⟩ := o_cs hf
              refine b_agrI hx hb hW 0 24 rfl mW_24 h15 dX3_says_108 ?_
              refine lv_iconst (v := 1) hx hb dX3_says_109 (by decide) ?_
              refine b_iald hx hb hW 0 (25 + ix (M.1 14 (ix x1))) rfl (mW_r25 (inB_lt h15)) (by decide) dX3_says_110 ?_
              refine lv_goto (tgt := 124) hx hb dX3_says_111 (by decide) ?_
              cases hf
              exact b_iret hx hb hr hlk hE hW () rfl trivial rfl dX3_says_124
          · have hf := o_t hf c12
            refine lv_aload_n hx hb dX3_says_87 rfl (lv_at hl 0 rfl) ?_
            refine lv_bipush (v := (-4)) hx hb dX3_says_88 (by decide) ?_
            obtain ⟨r16, M17, hc17, hf⟩ := o_b2s hf
            have hp17 : List.Perm [mW g adM kM tM M] ([mW g adM kM tM M] ++ []) := b_perm [0] [] 1 rfl rfl rfl rfl
            refine b_call0 ⟨rfl, rfl⟩ (va_runV (As := [.int (-4)]) (rest := []) ⟨hx, hb, hml, hown, hts⟩ (m_X3_refuse l D g H.size adM kM tM M (-4) r16 M17 hc17) (cwV 1 hts (lw_V q1572 q1574 qs33 q79 q1575) rfl rfl rfl (by decide +kernel) ⟨Nat.le_of_ble_eq_true rfl, Nat.le_of_ble_eq_true rfl⟩) (b_preV (pp := 0) (q := 0) hW hp17 rfl mW_0 rfl) rfl rfl hl.1 rfl (lv_room (Nat.le_of_ble_eq_true rfl)) dX3_says_90 ⟨Nat.le_of_ble_eq_true rfl, Nat.le_of_ble_eq_true rfl⟩) hW hp17 (fun _ _ H locs hW => ?_)
            have hW : bW D g A s H locs [mW g adM kM tM M17] := hW
            cases hf
            exact b_iret hx hb hr hlk hE hW () rfl trivial rfl dX3_says_93
        · have hf := o_t hf c11
          refine lv_aload_n hx hb dX3_says_51 rfl (lv_at hl 0 rfl) ?_
          refine b_get hx hb hts in_X3 hown hW 0 0 3 12 rfl mW_0 rfl (by decide) ⟨rfl, rfl, rfl⟩ (hts _ q1471) mW_g12 dX3_says_52 ?_
          refine lv_aload_n hx hb dX3_says_55 rfl (lv_at hl 0 rfl) ?_
          refine b_get hx hb hts in_X3 hown hW 0 0 3 5 rfl mW_0 rfl (by decide) ⟨rfl, rfl, rfl⟩ (hts _ q1464) mW_g5 dX3_says_56 ?_
          refine lv_iload_n hx hb dX3_says_59 rfl (lv_at hl 1 rfl) ?_
          refine b_iald hx hb hW 0 14 rfl mW_14 h7 dX3_says_60 ?_
          obtain ⟨h18, hf⟩ := o_cs hf
          refine b_agrI hx hb hW 0 24 rfl mW_24 h18 dX3_says_61 ?_
          refine lv_iconst (v := 0) hx hb dX3_says_62 (by decide) ?_
          refine b_iald hx hb hW 0 (25 + ix (M.1 14 (ix x1))) rfl (mW_r25 (inB_lt h18)) (by decide) dX3_says_63 ?_
          refine lv_iload_n hx hb dX3_says_64 rfl (lv_at hl 2 rfl) ?_
          obtain ⟨r19, hc19, hf⟩ := o_b1s hf
          have hp19 : List.Perm [mW g adM kM tM M] ([] ++ [mW g adM kM tM M]) := b_perm [] [0] 1 rfl rfl rfl rfl
          refine b_call0 ⟨rfl, rfl⟩ (va_runS (As := [.int (M.1 (25 + ix (M.1 14 (ix x1))) (ix 0)), .int x2]) (rest := []) ⟨hx, hb, hml, hown, hts⟩ (m_X3_isUnder l D g H.size (M.1 (25 + ix (M.1 14 (ix x1))) (ix 0)) x2 r19 hc19) (va_cwS 2 hts (lw_S q1612 q1613 q79 q1614) rfl rfl rfl (by decide +kernel) ⟨Nat.le_of_ble_eq_true rfl, Nat.le_of_ble_eq_true rfl⟩) (b_preS hW hp19) rfl rfl hl.1 rfl (lv_room (Nat.le_of_ble_eq_true rfl)) dX3_says_65 ⟨Nat.le_of_ble_eq_true rfl, Nat.le_of_ble_eq_true rfl⟩) hW hp19 (fun _ _ H locs hW => ?_)
          have hW : bW D g A s H locs [mW g adM kM tM M] := hW
          refine lv_if_ne (tgt := 78) hx hb dX3_says_68 (by decide) (fun c20 => ?_) (fun c20 => ?_)
          · have hf := o_f hf c20
            refine lv_aload_n hx hb dX3_says_78 rfl (lv_at hl 0 rfl) ?_
            refine b_get hx hb hts in_X3 hown hW 0 0 3 0 rfl mW_0 rfl (by decide) ⟨rfl, rfl, rfl⟩ (hts _ q1459) mW_g0 dX3_says_79 ?_
            refine lv_iload_n hx hb dX3_says_82 rfl (lv_at hl 1 rfl) ?_
            refine b_iald hx hb hW 0 1 rfl mW_1 h7 dX3_says_83 ?_
            refine lv_if_ne (tgt := 94) hx hb dX3_says_84 (by decide) (fun c21 => ?_) (fun c21 => ?_)
            · have hf := o_f hf c21
              refine lv_iload_n hx hb dX3_says_94 rfl (lv_at hl 2 rfl) ?_
              refine lv_if_ne (tgt := 114) hx hb dX3_says_95 (by decide) (fun c22 => ?_) (fun c22 => ?_)
              · have hf := o_f hf c22
                refine lv_aload_n hx hb dX3_says_114 rfl (lv_at hl 0 rfl) ?_
                refine lv_aload_n hx hb dX3_says_115 rfl (lv_at hl 0 rfl) ?_
                refine b_get hx hb hts in_X3 hown hW 0 0 3 5 rfl mW_0 rfl (by decide) ⟨rfl, rfl, rfl⟩ (hts _ q1464) mW_g5 dX3_says_116 ?_
                refine lv_iload_n hx hb dX3_says_119 rfl (lv_at hl 1 rfl) ?_
                refine b_iald hx hb hW 0 14 rfl mW_14 h7 dX3_says_120 ?_
                obtain ⟨r23, hc23, hf⟩ := o_b1s hf
                have hp23 : List.Perm [mW g adM kM tM M] ([mW g adM kM tM M] ++ []) := b_perm [0] [] 1 rfl rfl rfl rfl
                refine b_call0 ⟨rfl, rfl⟩ (va_runV (As := [.int (M.1 14 (ix x1))]) (rest := []) ⟨hx, hb, hml, hown, hts⟩ (m_X3_choiceOf l D g H.size adM kM tM fu M (M.1 14 (ix x1)) r23 hc23) (cwV 1 hts (lw_V q1615 q1617 qs36 q79 q1618) rfl rfl rfl (by decide +kernel) ⟨Nat.le_of_ble_eq_true rfl, Nat.le_of_ble_eq_true rfl⟩) (b_preV (pp := 0) (q := 0) hW hp23 rfl mW_0 rfl) rfl rfl hl.1 rfl (lv_room (Nat.le_of_ble_eq_true rfl)) dX3_says_121 ⟨Nat.le_of_ble_eq_true rfl, Nat.le_of_ble_eq_true rfl⟩) hW hp23 (fun _ _ H locs hW => ?_)
                have hW : bW D g A s H locs [mW g adM kM tM M] := hW
                cases hf
                exact b_iret hx hb hr hlk hE hW () rfl trivial rfl dX3_says_124
              · have hf := o_t hf c22
                refine lv_aload_n hx hb dX3_says_98 rfl (lv_at hl 0 rfl) ?_
                refine b_get hx hb hts in_X3 hown hW 0 0 3 12 rfl mW_0 rfl (by decide) ⟨rfl, rfl, rfl⟩ (hts _ q1471) mW_g12 dX3_says_99 ?_
                refine lv_aload_n hx hb dX3_says_102 rfl (lv_at hl 0 rfl) ?_
                refine b_get hx hb hts in_X3 hown hW 0 0 3 5 rfl mW_0 rfl (by decide) ⟨rfl, rfl, rfl⟩ (hts _ q1464) mW_g5 dX3_says_103 ?_
                refine lv_iload_n hx hb dX3_says_106 rfl (lv_at hl 1 rfl) ?_
                refine b_iald hx hb hW 0 14 rfl mW_14 h7 dX3_says_107 ?_
                refine b_agrI hx hb hW 0 24 rfl mW_24 h18 dX3_says_108 ?_
                refine lv_iconst (v := 1) hx hb dX3_says_109 (by decide) ?_
                refine b_iald hx hb hW 0 (25 + ix (M.1 14 (ix x1))) rfl (mW_r25 (inB_lt h18)) (by decide) dX3_says_110 ?_
                refine lv_goto (tgt := 124) hx hb dX3_says_111 (by decide) ?_
                cases hf
                exact b_iret hx hb hr hlk hE hW () rfl trivial rfl dX3_says_124
            · have hf := o_t hf c21
              refine lv_aload_n hx hb dX3_says_87 rfl (lv_at hl 0 rfl) ?_
              refine lv_bipush (v := (-4)) hx hb dX3_says_88 (by decide) ?_
              obtain ⟨r24, M25, hc25, hf⟩ := o_b2s hf
              have hp25 : List.Perm [mW g adM kM tM M] ([mW g adM kM tM M] ++ []) := b_perm [0] [] 1 rfl rfl rfl rfl
              refine b_call0 ⟨rfl, rfl⟩ (va_runV (As := [.int (-4)]) (rest := []) ⟨hx, hb, hml, hown, hts⟩ (m_X3_refuse l D g H.size adM kM tM M (-4) r24 M25 hc25) (cwV 1 hts (lw_V q1572 q1574 qs33 q79 q1575) rfl rfl rfl (by decide +kernel) ⟨Nat.le_of_ble_eq_true rfl, Nat.le_of_ble_eq_true rfl⟩) (b_preV (pp := 0) (q := 0) hW hp25 rfl mW_0 rfl) rfl rfl hl.1 rfl (lv_room (Nat.le_of_ble_eq_true rfl)) dX3_says_90 ⟨Nat.le_of_ble_eq_true rfl, Nat.le_of_ble_eq_true rfl⟩) hW hp25 (fun _ _ H locs hW => ?_)
              have hW : bW D g A s H locs [mW g adM kM tM M25] := hW
              cases hf
              exact b_iret hx hb hr hlk hE hW () rfl trivial rfl dX3_says_93
          · have hf := o_t hf c20
            refine lv_aload_n hx hb dX3_says_71 rfl (lv_at hl 0 rfl) ?_
            refine lv_bipush (v := (-3)) hx hb dX3_says_72 (by decide) ?_
            obtain ⟨r26, M27, hc27, hf⟩ := o_b2s hf
            have hp27 : List.Perm [mW g adM kM tM M] ([mW g adM kM tM M] ++ []) := b_perm [0] [] 1 rfl rfl rfl rfl
            refine b_call0 ⟨rfl, rfl⟩ (va_runV (As := [.int (-3)]) (rest := []) ⟨hx, hb, hml, hown, hts⟩ (m_X3_refuse l D g H.size adM kM tM M (-3) r26 M27 hc27) (cwV 1 hts (lw_V q1572 q1574 qs33 q79 q1575) rfl rfl rfl (by decide +kernel) ⟨Nat.le_of_ble_eq_true rfl, Nat.le_of_ble_eq_true rfl⟩) (b_preV (pp := 0) (q := 0) hW hp27 rfl mW_0 rfl) rfl rfl hl.1 rfl (lv_room (Nat.le_of_ble_eq_true rfl)) dX3_says_74 ⟨Nat.le_of_ble_eq_true rfl, Nat.le_of_ble_eq_true rfl⟩) hW hp27 (fun _ _ H locs hW => ?_)
            have hW : bW D g A s H locs [mW g adM kM tM M27] := hW
            cases hf
            exact b_iret hx hb hr hlk hE hW () rfl trivial rfl dX3_says_77
    · have hf := o_t hf c6
      refine lv_aload_n hx hb dX3_says_24 rfl (lv_at hl 0 rfl) ?_
      refine lv_bipush (v := (-2)) hx hb dX3_says_25 (by decide) ?_
      obtain ⟨r28, M29, hc29, hf⟩ := o_b2s hf
      have hp29 : List.Perm [mW g adM kM tM M] ([mW g adM kM tM M] ++ []) := b_perm [0] [] 1 rfl rfl rfl rfl
      refine b_call0 ⟨rfl, rfl⟩ (va_runV (As := [.int (-2)]) (rest := []) ⟨hx, hb, hml, hown, hts⟩ (m_X3_refuse l D g H.size adM kM tM M (-2) r28 M29 hc29) (cwV 1 hts (lw_V q1572 q1574 qs33 q79 q1575) rfl rfl rfl (by decide +kernel) ⟨Nat.le_of_ble_eq_true rfl, Nat.le_of_ble_eq_true rfl⟩) (b_preV (pp := 0) (q := 0) hW hp29 rfl mW_0 rfl) rfl rfl hl.1 rfl (lv_room (Nat.le_of_ble_eq_true rfl)) dX3_says_27 ⟨Nat.le_of_ble_eq_true rfl, Nat.le_of_ble_eq_true rfl⟩) hW hp29 (fun _ _ H locs hW => ?_)
      have hW : bW D g A s H locs [mW g adM kM tM M29] := hW
      cases hf
      exact b_iret hx hb hr hlk hE hW () rfl trivial rfl dX3_says_30
def f_X3_addInn (M : BC) (x1 : Int32) (x2 : Int32) (x3 : Int32) (x4 : Int32) : Option BC :=
 o_lt (M.1 0 1) fun (v1 : Int32) =>
 o_lt (v1 + 1) fun (v2 : Int32) =>
 o_lt (bI M 0 (upd (M.1 0) 1 v2)) fun (M3 : BC) =>
 o_ck (inB v1 6) (o_lt (bI M3 (18 + ix v1) (upd (M3.1 (18 + ix v1)) (ix 0) x1)) fun (M5 : BC) =>
 o_lt (bI M5 (18 + ix v1) (upd (M5.1 (18 + ix v1)) (ix 1) x1)) fun (M6 : BC) =>
 o_lt (bI M6 (18 + ix v1) (upd (M6.1 (18 + ix v1)) (ix 2) x2)) fun (M7 : BC) =>
 o_lt (bI M7 (18 + ix v1) (upd (M7.1 (18 + ix v1)) (ix 3) x3)) fun (M8 : BC) =>
 o_lt (bI M8 (18 + ix v1) (upd (M8.1 (18 + ix v1)) (ix 4) x4)) fun (M9 : BC) =>
 o_lt (bI M9 (18 + ix v1) (upd (M9.1 (18 + ix v1)) (ix 5) 0)) fun (M10 : BC) =>
 o_lt (bI M10 (18 + ix v1) (upd (M10.1 (18 + ix v1)) (ix 6) 0)) fun (M11 : BC) =>
 some M11)
abbrev rm_X3_addInn : Room := { frames := 0, cells := 0, slots := 0, locals := 0 }
set_option maxHeartbeats 4000000 in
set_option maxRecDepth 100000 in
theorem m_X3_addInn (l : Launch) (D : va_G) (g : Nat → ClassId) (sz : Nat) (adM : Nat → Nat) (kM : Option Nat) (tM : Option Nat) (M : BC) (x1 : Int32) (x2 : Int32) (x3 : Int32) (x4 : Int32) (MO : BC) (hf : f_X3_addInn M x1 x2 x3 x4 = some MO) : bMet (S := Unit) l yX3_addInn (ws_ yX3_addInn cX3_addInn 6 none) rm_X3_addInn D g sz [.ref (adM 0), .int x1, .int x2, .int x3, .int x4] [mW g adM kM tM M] (fun _ => True) (fun _ => none) (fun _ => [mW g adM kM tM MO]) := by
  refine b_met (by decide) (Nat.le_of_ble_eq_true rfl) ?_
  intro p e s m args below meth c A Q ls hx hb hml hr hlk hown hname hts hE hl hW
  revert hW; generalize s.heap = H; intro hW
  have hl : lv_has ls 6 [(0, .ref (adM 0)), (1, .int x1), (2, .int x2), (3, .int x3), (4, .int x4)] := hl
  rw [f_X3_addInn] at hf
  refine lv_aload_n hx hb dX3_addInn_0 rfl (lv_at hl 0 rfl) ?_
  refine b_get hx hb hts in_X3 hown hW 0 0 3 10 rfl mW_0 rfl (by decide) ⟨rfl, rfl, rfl⟩ (hts _ q1469) mW_g10 dX3_addInn_1 ?_
  refine lv_aload_n hx hb dX3_addInn_4 rfl (lv_at hl 0 rfl) ?_
  refine lv_dup hx hb dX3_addInn_5 rfl ?_
  refine b_get hx hb hts in_X3 hown hW 0 0 3 9 rfl mW_0 rfl (by decide) ⟨rfl, rfl, rfl⟩ (hts _ q1468) mW_g9 dX3_addInn_6 ?_
  obtain ⟨v1, ev1, hf⟩ := o_ls hf
  refine b_topi ev1 ?_
  refine lv_dup_x1 hx hb dX3_addInn_9 rfl rfl ?_
  refine lv_iconst (v := 1) hx hb dX3_addInn_10 (by decide) ?_
  refine lv_iadd hx hb dX3_addInn_11 ?_
  obtain ⟨v2, ev2, hf⟩ := o_ls hf
  refine b_topi ev2 ?_
  obtain ⟨M3, eM3, hf⟩ := o_ls hf
  refine b_put hx hb hts in_X3 tyX3 tyX3_ok nmX3 hown hW 0 0 3 9 rfl mW_0 (mW_p9 eM3) rfl rfl (by decide) ⟨rfl, rfl, rfl⟩ (hts _ q1468) rfl (ty := .int) rfl rfl rfl (by rw [mW_l]; decide) dX3_addInn_12 (fun H locs hW => ?_)
  have hW : bW D g A s H locs [mW g adM kM tM M3] := hW
  obtain ⟨h4, hf⟩ := o_cs hf
  refine b_agrI hx hb hW 0 17 rfl mW_17 h4 dX3_addInn_15 ?_
  refine lv_astore (lv' := [(5, .ref (adM (18 + ix v1))), (0, .ref (adM 0)), (1, .int x1), (2, .int x2), (3, .int x3), (4, .int x4)]) hx hb dX3_addInn_16 hl (by decide) rfl (fun ls hl => ?_)
  refine lv_aload hx hb dX3_addInn_18 (lv_at hl 0 rfl) ?_
  refine lv_iconst (v := 0) hx hb dX3_addInn_20 (by decide) ?_
  refine lv_iload_n hx hb dX3_addInn_21 rfl (lv_at hl 2 rfl) ?_
  obtain ⟨M5, eM5, hf⟩ := o_ls hf
  refine b_iast hx hb hW 0 (18 + ix v1) rfl (mW_r18 (inB_lt h4)) (mW_rs18 (inB_lt h4) eM5) rfl (by decide) dX3_addInn_22 (fun H locs hW => ?_)
  have hW : bW D g A s H locs [mW g adM kM tM M5] := hW
  refine lv_aload hx hb dX3_addInn_23 (lv_at hl 0 rfl) ?_
  refine lv_iconst (v := 1) hx hb dX3_addInn_25 (by decide) ?_
  refine lv_iload_n hx hb dX3_addInn_26 rfl (lv_at hl 2 rfl) ?_
  obtain ⟨M6, eM6, hf⟩ := o_ls hf
  refine b_iast hx hb hW 0 (18 + ix v1) rfl (mW_r18 (inB_lt h4)) (mW_rs18 (inB_lt h4) eM6) rfl (by decide) dX3_addInn_27 (fun H locs hW => ?_)
  have hW : bW D g A s H locs [mW g adM kM tM M6] := hW
  refine lv_aload hx hb dX3_addInn_28 (lv_at hl 0 rfl) ?_
  refine lv_iconst (v := 2) hx hb dX3_addInn_30 (by decide) ?_
  refine lv_iload_n hx hb dX3_addInn_31 rfl (lv_at hl 3 rfl) ?_
  obtain ⟨M7, eM7, hf⟩ := o_ls hf
  refine b_iast hx hb hW 0 (18 + ix v1) rfl (mW_r18 (inB_lt h4)) (mW_rs18 (inB_lt h4) eM7) rfl (by decide) dX3_addInn_32 (fun H locs hW => ?_)
  have hW : bW D g A s H locs [mW g adM kM tM M7] := hW
  refine lv_aload hx hb dX3_addInn_33 (lv_at hl 0 rfl) ?_
  refine lv_iconst (v := 3) hx hb dX3_addInn_35 (by decide) ?_
  refine lv_iload_n hx hb dX3_addInn_36 rfl (lv_at hl 4 rfl) ?_
  obtain ⟨M8, eM8, hf⟩ := o_ls hf
  refine b_iast hx hb hW 0 (18 + ix v1) rfl (mW_r18 (inB_lt h4)) (mW_rs18 (inB_lt h4) eM8) rfl (by decide) dX3_addInn_37 (fun H locs hW => ?_)
  have hW : bW D g A s H locs [mW g adM kM tM M8] := hW
  refine lv_aload hx hb dX3_addInn_38 (lv_at hl 0 rfl) ?_
  refine lv_iconst (v := 4) hx hb dX3_addInn_40 (by decide) ?_
  refine lv_iload hx hb dX3_addInn_41 (lv_at hl 5 rfl) ?_
  obtain ⟨M9, eM9, hf⟩ := o_ls hf
  refine b_iast hx hb hW 0 (18 + ix v1) rfl (mW_r18 (inB_lt h4)) (mW_rs18 (inB_lt h4) eM9) rfl (by decide) dX3_addInn_43 (fun H locs hW => ?_)
  have hW : bW D g A s H locs [mW g adM kM tM M9] := hW
  refine lv_aload hx hb dX3_addInn_44 (lv_at hl 0 rfl) ?_
  refine lv_iconst (v := 5) hx hb dX3_addInn_46 (by decide) ?_
  refine lv_iconst (v := 0) hx hb dX3_addInn_47 (by decide) ?_
  obtain ⟨M10, eM10, hf⟩ := o_ls hf
  refine b_iast hx hb hW 0 (18 + ix v1) rfl (mW_r18 (inB_lt h4)) (mW_rs18 (inB_lt h4) eM10) rfl (by decide) dX3_addInn_48 (fun H locs hW => ?_)
  have hW : bW D g A s H locs [mW g adM kM tM M10] := hW
  refine lv_aload hx hb dX3_addInn_49 (lv_at hl 0 rfl) ?_
  refine lv_bipush (v := 6) hx hb dX3_addInn_51 (by decide) ?_
  refine lv_iconst (v := 0) hx hb dX3_addInn_53 (by decide) ?_
  obtain ⟨M11, eM11, hf⟩ := o_ls hf
  refine b_iast hx hb hW 0 (18 + ix v1) rfl (mW_r18 (inB_lt h4)) (mW_rs18 (inB_lt h4) eM11) rfl (by decide) dX3_addInn_54 (fun H locs hW => ?_)
  have hW : bW D g A s H locs [mW g adM kM tM M11] := hW
  cases hf
  exact b_vret hx hb hr hlk hE hW () rfl trivial rfl dX3_addInn_55
def f_X3_inn (M : BC) (x1 : Int32) (x2 : Int32) (x3 : Int32) : Option (Int32 × BC) :=
 o_b1 (f_X3_in x1.toInt64 0 100) fun (r1 : Int32) =>
 (if r1 = 0 then
 o_b2 (f_X3_refuse M (-2)) fun (r3 : Int32) (M4 : BC) =>
 some (r3, M4)
 else
 o_b1 (f_X3_in x2.toInt64 1 20) fun (r5 : Int32) =>
 (if r5 = 0 then
 o_b2 (f_X3_refuse M (-2)) fun (r7 : Int32) (M8 : BC) =>
 some (r7, M8)
 else
 o_b1 (f_X3_in x3.toInt64 0 99) fun (r9 : Int32) =>
 (if r9 = 0 then
 o_b2 (f_X3_refuse M (-2)) fun (r15 : Int32) (M16 : BC) =>
 some (r15, M16)
 else
 (if (M.1 0 1) = 6 then
 o_b2 (f_X3_refuse M (-6)) fun (r13 : Int32) (M14 : BC) =>
 some (r13, M14)
 else
 o_b1 (f_X3_addInn M x1 x2 x3 (-1)) fun (M12 : BC) =>
 some ((M12.1 0 1) - 1, M12)))))
abbrev rm_X3_inn : Room := { frames := 1, cells := 0, slots := 0, locals := 25 }
set_option maxHeartbeats 4000000 in
set_option maxRecDepth 100000 in
theorem m_X3_inn (l : Launch) (D : va_G) (g : Nat → ClassId) (sz : Nat) (adM : Nat → Nat) (kM : Option Nat) (tM : Option Nat) (M : BC) (x1 : Int32) (x2 : Int32) (x3 : Int32) (rO : Int32) (MO : BC) (hf : f_X3_inn M x1 x2 x3 = some (rO, MO)) : bMet (S := Unit) l yX3_inn (ws_ yX3_inn cX3_inn 4 (some .int)) rm_X3_inn D g sz [.ref (adM 0), .int x1, .int x2, .int x3] [mW g adM kM tM M] (fun _ => True) (fun _ => some (.int rO)) (fun _ => [mW g adM kM tM MO]) := by
  refine b_met (by decide) (Nat.le_of_ble_eq_true rfl) ?_
  intro p e s m args below meth c A Q ls hx hb hml hr hlk hown hname hts hE hl hW
  revert hW; generalize s.heap = H; intro hW
  have hl : lv_has ls 4 [(0, .ref (adM 0)), (1, .int x1), (2, .int x2), (3, .int x3)] := hl
  rw [f_X3_inn] at hf
  refine lv_iload_n hx hb dX3_inn_0 rfl (lv_at hl 1 rfl) ?_
  refine lv_i2l hx hb dX3_inn_1 rfl ?_
  refine lv_lconst (v := 0) hx hb dX3_inn_2 (by decide) ?_
  refine lv_ldc2 (v := 100) hx hb hown (hts _ q1635) dX3_inn_3 ?_
  obtain ⟨r1, hc1, hf⟩ := o_b1s hf
  have hp1 : List.Perm [mW g adM kM tM M] ([] ++ [mW g adM kM tM M]) := b_perm [] [0] 1 rfl rfl rfl rfl
  refine b_call0 ⟨rfl, rfl⟩ (va_runS (As := [.long x1.toInt64, .long 0, .long 100]) (rest := []) ⟨hx, hb, hml, hown, hts⟩ (m_X3_in l D g H.size x1.toInt64 0 100 r1 hc1) (va_cwS 3 hts (lw_S q1567 q1568 q79 q1569) rfl rfl rfl (by decide +kernel) ⟨Nat.le_of_ble_eq_true rfl, Nat.le_of_ble_eq_true rfl⟩) (b_preS hW hp1) rfl rfl hl.1 rfl (lv_room (Nat.le_of_ble_eq_true rfl)) dX3_inn_6 ⟨Nat.le_of_ble_eq_true rfl, Nat.le_of_ble_eq_true rfl⟩) hW hp1 (fun _ _ H locs hW => ?_)
  have hW : bW D g A s H locs [mW g adM kM tM M] := hW
  refine lv_if_eq (tgt := 36) hx hb dX3_inn_9 (by decide) (fun c2 => ?_) (fun c2 => ?_)
  · have hf := o_t hf c2
    refine lv_aload_n hx hb dX3_inn_36 rfl (lv_at hl 0 rfl) ?_
    refine lv_bipush (v := (-2)) hx hb dX3_inn_37 (by decide) ?_
    obtain ⟨r3, M4, hc4, hf⟩ := o_b2s hf
    have hp4 : List.Perm [mW g adM kM tM M] ([mW g adM kM tM M] ++ []) := b_perm [0] [] 1 rfl rfl rfl rfl
    refine b_call0 ⟨rfl, rfl⟩ (va_runV (As := [.int (-2)]) (rest := []) ⟨hx, hb, hml, hown, hts⟩ (m_X3_refuse l D g H.size adM kM tM M (-2) r3 M4 hc4) (cwV 1 hts (lw_V q1572 q1574 qs33 q79 q1575) rfl rfl rfl (by decide +kernel) ⟨Nat.le_of_ble_eq_true rfl, Nat.le_of_ble_eq_true rfl⟩) (b_preV (pp := 0) (q := 0) hW hp4 rfl mW_0 rfl) rfl rfl hl.1 rfl (lv_room (Nat.le_of_ble_eq_true rfl)) dX3_inn_39 ⟨Nat.le_of_ble_eq_true rfl, Nat.le_of_ble_eq_true rfl⟩) hW hp4 (fun _ _ H locs hW => ?_)
    have hW : bW D g A s H locs [mW g adM kM tM M4] := hW
    cases hf
    exact b_iret hx hb hr hlk hE hW () rfl trivial rfl dX3_inn_42
  · have hf := o_f hf c2
    refine lv_iload_n hx hb dX3_inn_12 rfl (lv_at hl 2 rfl) ?_
    refine lv_i2l hx hb dX3_inn_13 rfl ?_
    refine lv_lconst (v := 1) hx hb dX3_inn_14 (by decide) ?_
    refine lv_ldc2 (v := 20) hx hb hown (hts _ q1636) dX3_inn_15 ?_
    obtain ⟨r5, hc5, hf⟩ := o_b1s hf
    have hp5 : List.Perm [mW g adM kM tM M] ([] ++ [mW g adM kM tM M]) := b_perm [] [0] 1 rfl rfl rfl rfl
    refine b_call0 ⟨rfl, rfl⟩ (va_runS (As := [.long x2.toInt64, .long 1, .long 20]) (rest := []) ⟨hx, hb, hml, hown, hts⟩ (m_X3_in l D g H.size x2.toInt64 1 20 r5 hc5) (va_cwS 3 hts (lw_S q1567 q1568 q79 q1569) rfl rfl rfl (by decide +kernel) ⟨Nat.le_of_ble_eq_true rfl, Nat.le_of_ble_eq_true rfl⟩) (b_preS hW hp5) rfl rfl hl.1 rfl (lv_room (Nat.le_of_ble_eq_true rfl)) dX3_inn_18 ⟨Nat.le_of_ble_eq_true rfl, Nat.le_of_ble_eq_true rfl⟩) hW hp5 (fun _ _ H locs hW => ?_)
    have hW : bW D g A s H locs [mW g adM kM tM M] := hW
    refine lv_if_eq (tgt := 36) hx hb dX3_inn_21 (by decide) (fun c6 => ?_) (fun c6 => ?_)
    · have hf := o_t hf c6
      refine lv_aload_n hx hb dX3_inn_36 rfl (lv_at hl 0 rfl) ?_
      refine lv_bipush (v := (-2)) hx hb dX3_inn_37 (by decide) ?_
      obtain ⟨r7, M8, hc8, hf⟩ := o_b2s hf
      have hp8 : List.Perm [mW g adM kM tM M] ([mW g adM kM tM M] ++ []) := b_perm [0] [] 1 rfl rfl rfl rfl
      refine b_call0 ⟨rfl, rfl⟩ (va_runV (As := [.int (-2)]) (rest := []) ⟨hx, hb, hml, hown, hts⟩ (m_X3_refuse l D g H.size adM kM tM M (-2) r7 M8 hc8) (cwV 1 hts (lw_V q1572 q1574 qs33 q79 q1575) rfl rfl rfl (by decide +kernel) ⟨Nat.le_of_ble_eq_true rfl, Nat.le_of_ble_eq_true rfl⟩) (b_preV (pp := 0) (q := 0) hW hp8 rfl mW_0 rfl) rfl rfl hl.1 rfl (lv_room (Nat.le_of_ble_eq_true rfl)) dX3_inn_39 ⟨Nat.le_of_ble_eq_true rfl, Nat.le_of_ble_eq_true rfl⟩) hW hp8 (fun _ _ H locs hW => ?_)
      have hW : bW D g A s H locs [mW g adM kM tM M8] := hW
      cases hf
      exact b_iret hx hb hr hlk hE hW () rfl trivial rfl dX3_inn_42
    · have hf := o_f hf c6
      refine lv_iload_n hx hb dX3_inn_24 rfl (lv_at hl 3 rfl) ?_
      refine lv_i2l hx hb dX3_inn_25 rfl ?_
      refine lv_lconst (v := 0) hx hb dX3_inn_26 (by decide) ?_
      refine lv_ldc2 (v := 99) hx hb hown (hts _ q1637) dX3_inn_27 ?_
      obtain ⟨r9, hc9, hf⟩ := o_b1s hf
      have hp9 : List.Perm [mW g adM kM tM M] ([] ++ [mW g adM kM tM M]) := b_perm [] [0] 1 rfl rfl rfl rfl
      refine b_call0 ⟨rfl, rfl⟩ (va_runS (As := [.long x3.toInt64, .long 0, .long 99]) (rest := []) ⟨hx, hb, hml, hown, hts⟩ (m_X3_in l D g H.size x3.toInt64 0 99 r9 hc9) (va_cwS 3 hts (lw_S q1567 q1568 q79 q1569) rfl rfl rfl (by decide +kernel) ⟨Nat.le_of_ble_eq_true rfl, Nat.le_of_ble_eq_true rfl⟩) (b_preS hW hp9) rfl rfl hl.1 rfl (lv_room (Nat.le_of_ble_eq_true rfl)) dX3_inn_30 ⟨Nat.le_of_ble_eq_true rfl, Nat.le_of_ble_eq_true rfl⟩) hW hp9 (fun _ _ H locs hW => ?_)
      have hW : bW D g A s H locs [mW g adM kM tM M] := hW
      refine lv_if_ne (tgt := 43) hx hb dX3_inn_33 (by decide) (fun c10 => ?_) (fun c10 => ?_)
      · have hf := o_f hf c10
        refine lv_aload_n hx hb dX3_inn_43 rfl (lv_at hl 0 rfl) ?_
        refine b_get hx hb hts in_X3 hown hW 0 0 3 9 rfl mW_0 rfl (by decide) ⟨rfl, rfl, rfl⟩ (hts _ q1468) mW_g9 dX3_inn_44 ?_
        refine lv_bipush (v := 6) hx hb dX3_inn_47 (by decide) ?_
        refine lv_icmp_ne (tgt := 59) hx hb dX3_inn_49 (by decide) (fun c11 => ?_) (fun c11 => ?_)
        · have hf := o_f hf c11
          refine lv_aload_n hx hb dX3_inn_59 rfl (lv_at hl 0 rfl) ?_
          refine lv_iload_n hx hb dX3_inn_60 rfl (lv_at hl 1 rfl) ?_
          refine lv_iload_n hx hb dX3_inn_61 rfl (lv_at hl 2 rfl) ?_
          refine lv_iload_n hx hb dX3_inn_62 rfl (lv_at hl 3 rfl) ?_
          refine lv_iconst (v := (-1)) hx hb dX3_inn_63 (by decide) ?_
          obtain ⟨M12, hc12, hf⟩ := o_b1s hf
          have hp12 : List.Perm [mW g adM kM tM M] ([mW g adM kM tM M] ++ []) := b_perm [0] [] 1 rfl rfl rfl rfl
          refine b_call0 ⟨rfl, rfl⟩ (va_runV (As := [.int x1, .int x2, .int x3, .int (-1)]) (rest := []) ⟨hx, hb, hml, hown, hts⟩ (m_X3_addInn l D g H.size adM kM tM M x1 x2 x3 (-1) M12 hc12) (cwV 4 hts (lw_V q1638 q1640 qs40 q79 q1641) rfl rfl rfl (by decide +kernel) ⟨Nat.le_of_ble_eq_true rfl, Nat.le_of_ble_eq_true rfl⟩) (b_preV (pp := 0) (q := 0) hW hp12 rfl mW_0 rfl) rfl rfl hl.1 rfl (lv_room (Nat.le_of_ble_eq_true rfl)) dX3_inn_64 ⟨Nat.le_of_ble_eq_true rfl, Nat.le_of_ble_eq_true rfl⟩) hW hp12 (fun _ _ H locs hW => ?_)
          have hW : bW D g A s H locs [mW g adM kM tM M12] := hW
          refine lv_aload_n hx hb dX3_inn_67 rfl (lv_at hl 0 rfl) ?_
          refine b_get hx hb hts in_X3 hown hW 0 0 3 9 rfl mW_0 rfl (by decide) ⟨rfl, rfl, rfl⟩ (hts _ q1468) mW_g9 dX3_inn_68 ?_
          refine lv_iconst (v := 1) hx hb dX3_inn_71 (by decide) ?_
          refine lv_isub hx hb dX3_inn_72 ?_
          cases hf
          exact b_iret hx hb hr hlk hE hW () rfl trivial rfl dX3_inn_73
        · have hf := o_t hf c11
          refine lv_aload_n hx hb dX3_inn_52 rfl (lv_at hl 0 rfl) ?_
          refine lv_bipush (v := (-6)) hx hb dX3_inn_53 (by decide) ?_
          obtain ⟨r13, M14, hc14, hf⟩ := o_b2s hf
          have hp14 : List.Perm [mW g adM kM tM M] ([mW g adM kM tM M] ++ []) := b_perm [0] [] 1 rfl rfl rfl rfl
          refine b_call0 ⟨rfl, rfl⟩ (va_runV (As := [.int (-6)]) (rest := []) ⟨hx, hb, hml, hown, hts⟩ (m_X3_refuse l D g H.size adM kM tM M (-6) r13 M14 hc14) (cwV 1 hts (lw_V q1572 q1574 qs33 q79 q1575) rfl rfl rfl (by decide +kernel) ⟨Nat.le_of_ble_eq_true rfl, Nat.le_of_ble_eq_true rfl⟩) (b_preV (pp := 0) (q := 0) hW hp14 rfl mW_0 rfl) rfl rfl hl.1 rfl (lv_room (Nat.le_of_ble_eq_true rfl)) dX3_inn_55 ⟨Nat.le_of_ble_eq_true rfl, Nat.le_of_ble_eq_true rfl⟩) hW hp14 (fun _ _ H locs hW => ?_)
          have hW : bW D g A s H locs [mW g adM kM tM M14] := hW
          cases hf
          exact b_iret hx hb hr hlk hE hW () rfl trivial rfl dX3_inn_58
      · have hf := o_t hf c10
        refine lv_aload_n hx hb dX3_inn_36 rfl (lv_at hl 0 rfl) ?_
        refine lv_bipush (v := (-2)) hx hb dX3_inn_37 (by decide) ?_
        obtain ⟨r15, M16, hc16, hf⟩ := o_b2s hf
        have hp16 : List.Perm [mW g adM kM tM M] ([mW g adM kM tM M] ++ []) := b_perm [0] [] 1 rfl rfl rfl rfl
        refine b_call0 ⟨rfl, rfl⟩ (va_runV (As := [.int (-2)]) (rest := []) ⟨hx, hb, hml, hown, hts⟩ (m_X3_refuse l D g H.size adM kM tM M (-2) r15 M16 hc16) (cwV 1 hts (lw_V q1572 q1574 qs33 q79 q1575) rfl rfl rfl (by decide +kernel) ⟨Nat.le_of_ble_eq_true rfl, Nat.le_of_ble_eq_true rfl⟩) (b_preV (pp := 0) (q := 0) hW hp16 rfl mW_0 rfl) rfl rfl hl.1 rfl (lv_room (Nat.le_of_ble_eq_true rfl)) dX3_inn_39 ⟨Nat.le_of_ble_eq_true rfl, Nat.le_of_ble_eq_true rfl⟩) hW hp16 (fun _ _ H locs hW => ?_)
        have hW : bW D g A s H locs [mW g adM kM tM M16] := hW
        cases hf
        exact b_iret hx hb hr hlk hE hW () rfl trivial rfl dX3_inn_42
def f_X3_goer (M : BC) (x1 : Int32) (x2 : Int32) (x3 : Int32) : Option (Int32 × BC) :=
 o_b1 (f_X3_in x1.toInt64 0 5) fun (r1 : Int32) =>
 (if r1 = 0 then
 o_b2 (f_X3_refuse M (-2)) fun (r3 : Int32) (M4 : BC) =>
 some (r3, M4)
 else
 o_b1 (f_X3_in x2.toInt64 1 30) fun (r5 : Int32) =>
 (if r5 = 0 then
 o_b2 (f_X3_refuse M (-2)) fun (r7 : Int32) (M8 : BC) =>
 some (r7, M8)
 else
 o_b1 (f_X3_in x3.toInt64 0 99) fun (r9 : Int32) =>
 (if r9 = 0 then
 o_b2 (f_X3_refuse M (-2)) fun (r23 : Int32) (M24 : BC) =>
 some (r23, M24)
 else
 (if (M.1 0 2) = 6 then
 o_b2 (f_X3_refuse M (-6)) fun (r21 : Int32) (M22 : BC) =>
 some (r21, M22)
 else
 o_ck (inB (M.1 0 2) 6) (o_lt (bI M (25 + ix (M.1 0 2)) (upd (M.1 (25 + ix (M.1 0 2))) (ix 0) x1)) fun (M13 : BC) =>
 o_ck (inB (M13.1 0 2) 6) (o_lt (bI M13 (25 + ix (M13.1 0 2)) (upd (M13.1 (25 + ix (M13.1 0 2))) (ix 1) x2)) fun (M15 : BC) =>
 o_ck (inB (M15.1 0 2) 6) (o_lt (bI M15 (25 + ix (M15.1 0 2)) (upd (M15.1 (25 + ix (M15.1 0 2))) (ix 2) x3)) fun (M17 : BC) =>
 o_lt (M17.1 0 2) fun (v18 : Int32) =>
 o_lt (v18 + 1) fun (v19 : Int32) =>
 o_lt (bI M17 0 (upd (M17.1 0) 2 v19)) fun (M20 : BC) =>
 some (v18, M20))))))))
abbrev rm_X3_goer : Room := { frames := 1, cells := 0, slots := 0, locals := 25 }
set_option maxHeartbeats 4000000 in
set_option maxRecDepth 100000 in
theorem m_X3_goer (l : Launch) (D : va_G) (g : Nat → ClassId) (sz : Nat) (adM : Nat → Nat) (kM : Option Nat) (tM : Option Nat) (M : BC) (x1 : Int32) (x2 : Int32) (x3 : Int32) (rO : Int32) (MO : BC) (hf : f_X3_goer M x1 x2 x3 = some (rO, MO)) : bMet (S := Unit) l yX3_goer (ws_ yX3_goer cX3_goer 4 (some .int)) rm_X3_goer D g sz [.ref (adM 0), .int x1, .int x2, .int x3] [mW g adM kM tM M] (fun _ => True) (fun _ => some (.int rO)) (fun _ => [mW g adM kM tM MO]) := by
  refine b_met (by decide) (Nat.le_of_ble_eq_true rfl) ?_
  intro p e s m args below meth c A Q ls hx hb hml hr hlk hown hname hts hE hl hW
  revert hW; generalize s.heap = H; intro hW
  have hl : lv_has ls 4 [(0, .ref (adM 0)), (1, .int x1), (2, .int x2), (3, .int x3)] := hl
  rw [f_X3_goer] at hf
  refine lv_iload_n hx hb dX3_goer_0 rfl (lv_at hl 1 rfl) ?_
  refine lv_i2l hx hb dX3_goer_1 rfl ?_
  refine lv_lconst (v := 0) hx hb dX3_goer_2 (by decide) ?_
  refine lv_ldc2 (v := 5) hx hb hown (hts _ q1611) dX3_goer_3 ?_
  obtain ⟨r1, hc1, hf⟩ := o_b1s hf
  have hp1 : List.Perm [mW g adM kM tM M] ([] ++ [mW g adM kM tM M]) := b_perm [] [0] 1 rfl rfl rfl rfl
  refine b_call0 ⟨rfl, rfl⟩ (va_runS (As := [.long x1.toInt64, .long 0, .long 5]) (rest := []) ⟨hx, hb, hml, hown, hts⟩ (m_X3_in l D g H.size x1.toInt64 0 5 r1 hc1) (va_cwS 3 hts (lw_S q1567 q1568 q79 q1569) rfl rfl rfl (by decide +kernel) ⟨Nat.le_of_ble_eq_true rfl, Nat.le_of_ble_eq_true rfl⟩) (b_preS hW hp1) rfl rfl hl.1 rfl (lv_room (Nat.le_of_ble_eq_true rfl)) dX3_goer_6 ⟨Nat.le_of_ble_eq_true rfl, Nat.le_of_ble_eq_true rfl⟩) hW hp1 (fun _ _ H locs hW => ?_)
  have hW : bW D g A s H locs [mW g adM kM tM M] := hW
  refine lv_if_eq (tgt := 36) hx hb dX3_goer_9 (by decide) (fun c2 => ?_) (fun c2 => ?_)
  · have hf := o_t hf c2
    refine lv_aload_n hx hb dX3_goer_36 rfl (lv_at hl 0 rfl) ?_
    refine lv_bipush (v := (-2)) hx hb dX3_goer_37 (by decide) ?_
    obtain ⟨r3, M4, hc4, hf⟩ := o_b2s hf
    have hp4 : List.Perm [mW g adM kM tM M] ([mW g adM kM tM M] ++ []) := b_perm [0] [] 1 rfl rfl rfl rfl
    refine b_call0 ⟨rfl, rfl⟩ (va_runV (As := [.int (-2)]) (rest := []) ⟨hx, hb, hml, hown, hts⟩ (m_X3_refuse l D g H.size adM kM tM M (-2) r3 M4 hc4) (cwV 1 hts (lw_V q1572 q1574 qs33 q79 q1575) rfl rfl rfl (by decide +kernel) ⟨Nat.le_of_ble_eq_true rfl, Nat.le_of_ble_eq_true rfl⟩) (b_preV (pp := 0) (q := 0) hW hp4 rfl mW_0 rfl) rfl rfl hl.1 rfl (lv_room (Nat.le_of_ble_eq_true rfl)) dX3_goer_39 ⟨Nat.le_of_ble_eq_true rfl, Nat.le_of_ble_eq_true rfl⟩) hW hp4 (fun _ _ H locs hW => ?_)
    have hW : bW D g A s H locs [mW g adM kM tM M4] := hW
    cases hf
    exact b_iret hx hb hr hlk hE hW () rfl trivial rfl dX3_goer_42
  · have hf := o_f hf c2
    refine lv_iload_n hx hb dX3_goer_12 rfl (lv_at hl 2 rfl) ?_
    refine lv_i2l hx hb dX3_goer_13 rfl ?_
    refine lv_lconst (v := 1) hx hb dX3_goer_14 (by decide) ?_
    refine lv_ldc2 (v := 30) hx hb hown (hts _ q1646) dX3_goer_15 ?_
    obtain ⟨r5, hc5, hf⟩ := o_b1s hf
    have hp5 : List.Perm [mW g adM kM tM M] ([] ++ [mW g adM kM tM M]) := b_perm [] [0] 1 rfl rfl rfl rfl
    refine b_call0 ⟨rfl, rfl⟩ (va_runS (As := [.long x2.toInt64, .long 1, .long 30]) (rest := []) ⟨hx, hb, hml, hown, hts⟩ (m_X3_in l D g H.size x2.toInt64 1 30 r5 hc5) (va_cwS 3 hts (lw_S q1567 q1568 q79 q1569) rfl rfl rfl (by decide +kernel) ⟨Nat.le_of_ble_eq_true rfl, Nat.le_of_ble_eq_true rfl⟩) (b_preS hW hp5) rfl rfl hl.1 rfl (lv_room (Nat.le_of_ble_eq_true rfl)) dX3_goer_18 ⟨Nat.le_of_ble_eq_true rfl, Nat.le_of_ble_eq_true rfl⟩) hW hp5 (fun _ _ H locs hW => ?_)
    have hW : bW D g A s H locs [mW g adM kM tM M] := hW
    refine lv_if_eq (tgt := 36) hx hb dX3_goer_21 (by decide) (fun c6 => ?_) (fun c6 => ?_)
    · have hf := o_t hf c6
      refine lv_aload_n hx hb dX3_goer_36 rfl (lv_at hl 0 rfl) ?_
      refine lv_bipush (v := (-2)) hx hb dX3_goer_37 (by decide) ?_
      obtain ⟨r7, M8, hc8, hf⟩ := o_b2s hf
      have hp8 : List.Perm [mW g adM kM tM M] ([mW g adM kM tM M] ++ []) := b_perm [0] [] 1 rfl rfl rfl rfl
      refine b_call0 ⟨rfl, rfl⟩ (va_runV (As := [.int (-2)]) (rest := []) ⟨hx, hb, hml, hown, hts⟩ (m_X3_refuse l D g H.size adM kM tM M (-2) r7 M8 hc8) (cwV 1 hts (lw_V q1572 q1574 qs33 q79 q1575) rfl rfl rfl (by decide +kernel) ⟨Nat.le_of_ble_eq_true rfl, Nat.le_of_ble_eq_true rfl⟩) (b_preV (pp := 0) (q := 0) hW hp8 rfl mW_0 rfl) rfl rfl hl.1 rfl (lv_room (Nat.le_of_ble_eq_true rfl)) dX3_goer_39 ⟨Nat.le_of_ble_eq_true rfl, Nat.le_of_ble_eq_true rfl⟩) hW hp8 (fun _ _ H locs hW => ?_)
      have hW : bW D g A s H locs [mW g adM kM tM M8] := hW
      cases hf
      exact b_iret hx hb hr hlk hE hW () rfl trivial rfl dX3_goer_42
    · have hf := o_f hf c6
      refine lv_iload_n hx hb dX3_goer_24 rfl (lv_at hl 3 rfl) ?_
      refine lv_i2l hx hb dX3_goer_25 rfl ?_
      refine lv_lconst (v := 0) hx hb dX3_goer_26 (by decide) ?_
      refine lv_ldc2 (v := 99) hx hb hown (hts _ q1637) dX3_goer_27 ?_
      obtain ⟨r9, hc9, hf⟩ := o_b1s hf
      have hp9 : List.Perm [mW g adM kM tM M] ([] ++ [mW g adM kM tM M]) := b_perm [] [0] 1 rfl rfl rfl rfl
      refine b_call0 ⟨rfl, rfl⟩ (va_runS (As := [.long x3.toInt64, .long 0, .long 99]) (rest := []) ⟨hx, hb, hml, hown, hts⟩ (m_X3_in l D g H.size x3.toInt64 0 99 r9 hc9) (va_cwS 3 hts (lw_S q1567 q1568 q79 q1569) rfl rfl rfl (by decide +kernel) ⟨Nat.le_of_ble_eq_true rfl, Nat.le_of_ble_eq_true rfl⟩) (b_preS hW hp9) rfl rfl hl.1 rfl (lv_room (Nat.le_of_ble_eq_true rfl)) dX3_goer_30 ⟨Nat.le_of_ble_eq_true rfl, Nat.le_of_ble_eq_true rfl⟩) hW hp9 (fun _ _ H locs hW => ?_)
      have hW : bW D g A s H locs [mW g adM kM tM M] := hW
      refine lv_if_ne (tgt := 43) hx hb dX3_goer_33 (by decide) (fun c10 => ?_) (fun c10 => ?_)
      · have hf := o_f hf c10
        refine lv_aload_n hx hb dX3_goer_43 rfl (lv_at hl 0 rfl) ?_
        refine b_get hx hb hts in_X3 hown hW 0 0 3 11 rfl mW_0 rfl (by decide) ⟨rfl, rfl, rfl⟩ (hts _ q1470) mW_g11 dX3_goer_44 ?_
        refine lv_bipush (v := 6) hx hb dX3_goer_47 (by decide) ?_
        refine lv_icmp_ne (tgt := 59) hx hb dX3_goer_49 (by decide) (fun c11 => ?_) (fun c11 => ?_)
        · have hf := o_f hf c11
          refine lv_aload_n hx hb dX3_goer_59 rfl (lv_at hl 0 rfl) ?_
          refine b_get hx hb hts in_X3 hown hW 0 0 3 12 rfl mW_0 rfl (by decide) ⟨rfl, rfl, rfl⟩ (hts _ q1471) mW_g12 dX3_goer_60 ?_
          refine lv_aload_n hx hb dX3_goer_63 rfl (lv_at hl 0 rfl) ?_
          refine b_get hx hb hts in_X3 hown hW 0 0 3 11 rfl mW_0 rfl (by decide) ⟨rfl, rfl, rfl⟩ (hts _ q1470) mW_g11 dX3_goer_64 ?_
          obtain ⟨h12, hf⟩ := o_cs hf
          refine b_agrI hx hb hW 0 24 rfl mW_24 h12 dX3_goer_67 ?_
          refine lv_iconst (v := 0) hx hb dX3_goer_68 (by decide) ?_
          refine lv_iload_n hx hb dX3_goer_69 rfl (lv_at hl 1 rfl) ?_
          obtain ⟨M13, eM13, hf⟩ := o_ls hf
          refine b_iast hx hb hW 0 (25 + ix (M.1 0 2)) rfl (mW_r25 (inB_lt h12)) (mW_rs25 (inB_lt h12) eM13) rfl (by decide) dX3_goer_70 (fun H locs hW => ?_)
          have hW : bW D g A s H locs [mW g adM kM tM M13] := hW
          refine lv_aload_n hx hb dX3_goer_71 rfl (lv_at hl 0 rfl) ?_
          refine b_get hx hb hts in_X3 hown hW 0 0 3 12 rfl mW_0 rfl (by decide) ⟨rfl, rfl, rfl⟩ (hts _ q1471) mW_g12 dX3_goer_72 ?_
          refine lv_aload_n hx hb dX3_goer_75 rfl (lv_at hl 0 rfl) ?_
          refine b_get hx hb hts in_X3 hown hW 0 0 3 11 rfl mW_0 rfl (by decide) ⟨rfl, rfl, rfl⟩ (hts _ q1470) mW_g11 dX3_goer_76 ?_
          obtain ⟨h14, hf⟩ := o_cs hf
          refine b_agrI hx hb hW 0 24 rfl mW_24 h14 dX3_goer_79 ?_
          refine lv_iconst (v := 1) hx hb dX3_goer_80 (by decide) ?_
          refine lv_iload_n hx hb dX3_goer_81 rfl (lv_at hl 2 rfl) ?_
          obtain ⟨M15, eM15, hf⟩ := o_ls hf
          refine b_iast hx hb hW 0 (25 + ix (M13.1 0 2)) rfl (mW_r25 (inB_lt h14)) (mW_rs25 (inB_lt h14) eM15) rfl (by decide) dX3_goer_82 (fun H locs hW => ?_)
          have hW : bW D g A s H locs [mW g adM kM tM M15] := hW
          refine lv_aload_n hx hb dX3_goer_83 rfl (lv_at hl 0 rfl) ?_
          refine b_get hx hb hts in_X3 hown hW 0 0 3 12 rfl mW_0 rfl (by decide) ⟨rfl, rfl, rfl⟩ (hts _ q1471) mW_g12 dX3_goer_84 ?_
          refine lv_aload_n hx hb dX3_goer_87 rfl (lv_at hl 0 rfl) ?_
          refine b_get hx hb hts in_X3 hown hW 0 0 3 11 rfl mW_0 rfl (by decide) ⟨rfl, rfl, rfl⟩ (hts _ q1470) mW_g11 dX3_goer_88 ?_
          obtain ⟨h16, hf⟩ := o_cs hf
          refine b_agrI hx hb hW 0 24 rfl mW_24 h16 dX3_goer_91 ?_
          refine lv_iconst (v := 2) hx hb dX3_goer_92 (by decide) ?_
          refine lv_iload_n hx hb dX3_goer_93 rfl (lv_at hl 3 rfl) ?_
          obtain ⟨M17, eM17, hf⟩ := o_ls hf
          refine b_iast hx hb hW 0 (25 + ix (M15.1 0 2)) rfl (mW_r25 (inB_lt h16)) (mW_rs25 (inB_lt h16) eM17) rfl (by decide) dX3_goer_94 (fun H locs hW => ?_)
          have hW : bW D g A s H locs [mW g adM kM tM M17] := hW
          refine lv_aload_n hx hb dX3_goer_95 rfl (lv_at hl 0 rfl) ?_
          refine lv_dup hx hb dX3_goer_96 rfl ?_
          refine b_get hx hb hts in_X3 hown hW 0 0 3 11 rfl mW_0 rfl (by decide) ⟨rfl, rfl, rfl⟩ (hts _ q1470) mW_g11 dX3_goer_97 ?_
          obtain ⟨v18, ev18, hf⟩ := o_ls hf
          refine b_topi ev18 ?_
          refine lv_dup_x1 hx hb dX3_goer_100 rfl rfl ?_
          refine lv_iconst (v := 1) hx hb dX3_goer_101 (by decide) ?_
          refine lv_iadd hx hb dX3_goer_102 ?_
          obtain ⟨v19, ev19, hf⟩ := o_ls hf
          refine b_topi ev19 ?_
          obtain ⟨M20, eM20, hf⟩ := o_ls hf
          refine b_put hx hb hts in_X3 tyX3 tyX3_ok nmX3 hown hW 0 0 3 11 rfl mW_0 (mW_p11 eM20) rfl rfl (by decide) ⟨rfl, rfl, rfl⟩ (hts _ q1470) rfl (ty := .int) rfl rfl rfl (by rw [mW_l]; decide) dX3_goer_103 (fun H locs hW => ?_)
          have hW : bW D g A s H locs [mW g adM kM tM M20] := hW
          cases hf
          exact b_iret hx hb hr hlk hE hW () rfl trivial rfl dX3_goer_106
        · have hf := o_t hf c11
          refine lv_aload_n hx hb dX3_goer_52 rfl (lv_at hl 0 rfl) ?_
          refine lv_bipush (v := (-6)) hx hb dX3_goer_53 (by decide) ?_
          obtain ⟨r21, M22, hc22, hf⟩ := o_b2s hf
          have hp22 : List.Perm [mW g adM kM tM M] ([mW g adM kM tM M] ++ []) := b_perm [0] [] 1 rfl rfl rfl rfl
          refine b_call0 ⟨rfl, rfl⟩ (va_runV (As := [.int (-6)]) (rest := []) ⟨hx, hb, hml, hown, hts⟩ (m_X3_refuse l D g H.size adM kM tM M (-6) r21 M22 hc22) (cwV 1 hts (lw_V q1572 q1574 qs33 q79 q1575) rfl rfl rfl (by decide +kernel) ⟨Nat.le_of_ble_eq_true rfl, Nat.le_of_ble_eq_true rfl⟩) (b_preV (pp := 0) (q := 0) hW hp22 rfl mW_0 rfl) rfl rfl hl.1 rfl (lv_room (Nat.le_of_ble_eq_true rfl)) dX3_goer_55 ⟨Nat.le_of_ble_eq_true rfl, Nat.le_of_ble_eq_true rfl⟩) hW hp22 (fun _ _ H locs hW => ?_)
          have hW : bW D g A s H locs [mW g adM kM tM M22] := hW
          cases hf
          exact b_iret hx hb hr hlk hE hW () rfl trivial rfl dX3_goer_58
      · have hf := o_t hf c10
        refine lv_aload_n hx hb dX3_goer_36 rfl (lv_at hl 0 rfl) ?_
        refine lv_bipush (v := (-2)) hx hb dX3_goer_37 (by decide) ?_
        obtain ⟨r23, M24, hc24, hf⟩ := o_b2s hf
        have hp24 : List.Perm [mW g adM kM tM M] ([mW g adM kM tM M] ++ []) := b_perm [0] [] 1 rfl rfl rfl rfl
        refine b_call0 ⟨rfl, rfl⟩ (va_runV (As := [.int (-2)]) (rest := []) ⟨hx, hb, hml, hown, hts⟩ (m_X3_refuse l D g H.size adM kM tM M (-2) r23 M24 hc24) (cwV 1 hts (lw_V q1572 q1574 qs33 q79 q1575) rfl rfl rfl (by decide +kernel) ⟨Nat.le_of_ble_eq_true rfl, Nat.le_of_ble_eq_true rfl⟩) (b_preV (pp := 0) (q := 0) hW hp24 rfl mW_0 rfl) rfl rfl hl.1 rfl (lv_room (Nat.le_of_ble_eq_true rfl)) dX3_goer_39 ⟨Nat.le_of_ble_eq_true rfl, Nat.le_of_ble_eq_true rfl⟩) hW hp24 (fun _ _ H locs hW => ?_)
        have hW : bW D g A s H locs [mW g adM kM tM M24] := hW
        cases hf
        exact b_iret hx hb hr hlk hE hW () rfl trivial rfl dX3_goer_42
def f_X3_isInn (M : BC) (x1 : Int32) : Option Int32 :=
 o_b1 (f_X3_in x1.toInt64 0 (((M.1 0 1) - 1).toInt64)) fun (r1 : Int32) =>
 o_ck (decide (r1 = 0) || decide (r1 = 1)) (some r1)
abbrev rm_X3_isInn : Room := { frames := 1, cells := 0, slots := 0, locals := 25 }
set_option maxHeartbeats 4000000 in
set_option maxRecDepth 100000 in
theorem m_X3_isInn (l : Launch) (D : va_G) (g : Nat → ClassId) (sz : Nat) (adM : Nat → Nat) (kM : Option Nat) (tM : Option Nat) (M : BC) (x1 : Int32) (rO : Int32) (hf : f_X3_isInn M x1 = some rO) : bMet (S := Unit) l yX3_isInn (ws_ yX3_isInn cX3_isInn 2 (some .boolean)) rm_X3_isInn D g sz [.ref (adM 0), .int x1] [mW g adM kM tM M] (fun _ => True) (fun _ => some (.int rO)) (fun _ => [mW g adM kM tM M]) := by
  refine b_met (by decide) (Nat.le_of_ble_eq_true rfl) ?_
  intro p e s m args below meth c A Q ls hx hb hml hr hlk hown hname hts hE hl hW
  revert hW; generalize s.heap = H; intro hW
  have hl : lv_has ls 2 [(0, .ref (adM 0)), (1, .int x1)] := hl
  rw [f_X3_isInn] at hf
  refine lv_iload_n hx hb dX3_isInn_0 rfl (lv_at hl 1 rfl) ?_
  refine lv_i2l hx hb dX3_isInn_1 rfl ?_
  refine lv_lconst (v := 0) hx hb dX3_isInn_2 (by decide) ?_
  refine lv_aload_n hx hb dX3_isInn_3 rfl (lv_at hl 0 rfl) ?_
  refine b_get hx hb hts in_X3 hown hW 0 0 3 9 rfl mW_0 rfl (by decide) ⟨rfl, rfl, rfl⟩ (hts _ q1468) mW_g9 dX3_isInn_4 ?_
  refine lv_iconst (v := 1) hx hb dX3_isInn_7 (by decide) ?_
  refine lv_isub hx hb dX3_isInn_8 ?_
  refine lv_i2l hx hb dX3_isInn_9 rfl ?_
  obtain ⟨r1, hc1, hf⟩ := o_b1s hf
  have hp1 : List.Perm [mW g adM kM tM M] ([] ++ [mW g adM kM tM M]) := b_perm [] [0] 1 rfl rfl rfl rfl
  refine b_call0 ⟨rfl, rfl⟩ (va_runS (As := [.long x1.toInt64, .long 0, .long (((M.1 0 1) - 1).toInt64)]) (rest := []) ⟨hx, hb, hml, hown, hts⟩ (m_X3_in l D g H.size x1.toInt64 0 (((M.1 0 1) - 1).toInt64) r1 hc1) (va_cwS 3 hts (lw_S q1567 q1568 q79 q1569) rfl rfl rfl (by decide +kernel) ⟨Nat.le_of_ble_eq_true rfl, Nat.le_of_ble_eq_true rfl⟩) (b_preS hW hp1) rfl rfl hl.1 rfl (lv_room (Nat.le_of_ble_eq_true rfl)) dX3_isInn_10 ⟨Nat.le_of_ble_eq_true rfl, Nat.le_of_ble_eq_true rfl⟩) hW hp1 (fun _ _ H locs hW => ?_)
  have hW : bW D g A s H locs [mW g adM kM tM M] := hW
  obtain ⟨h2, hf⟩ := o_cs hf
  cases hf
  exact b_zret hx hb hr hlk hE hW () rfl trivial rfl h2 dX3_isInn_13
def f_X3_change (M : BC) (x1 : Int32) (x2 : Int32) (x3 : Int32) : Option (Int32 × BC) :=
 o_b1 (f_X3_isInn M x1) fun (r1 : Int32) =>
 (if r1 = 0 then
 o_b2 (f_X3_refuse M (-2)) fun (r3 : Int32) (M4 : BC) =>
 some (r3, M4)
 else
 o_b1 (f_X3_in x2.toInt64 0 1) fun (r5 : Int32) =>
 (if r5 = 0 then
 o_b2 (f_X3_refuse M (-2)) fun (r7 : Int32) (M8 : BC) =>
 some (r7, M8)
 else
 (if x2 = 0 then
 o_b1 (f_X3_in x3.toInt64 0 100) fun (r21 : Int32) =>
 (if r21 = 0 then
 o_b2 (f_X3_refuse M (-2)) fun (r30 : Int32) (M31 : BC) =>
 some (r30, M31)
 else
 (if x2 = 0 then
 o_ck (inB x1 6) (o_lt (M.1 (18 + ix x1) (ix 0)) fun (v28 : Int32) =>
 o_lt (bI M (18 + ix x1) (upd (M.1 (18 + ix x1)) (ix 0) x3)) fun (M29 : BC) =>
 some (v28, M29))
 else
 o_ck (inB x1 6) (o_lt (M.1 (18 + ix x1) (ix 3)) fun (v25 : Int32) =>
 o_lt (bI M (18 + ix x1) (upd (M.1 (18 + ix x1)) (ix 3) x3)) fun (M26 : BC) =>
 some (v25, M26))))
 else
 o_b1 (f_X3_in x3.toInt64 0 99) fun (r10 : Int32) =>
 (if r10 = 0 then
 o_b2 (f_X3_refuse M (-2)) fun (r19 : Int32) (M20 : BC) =>
 some (r19, M20)
 else
 (if x2 = 0 then
 o_ck (inB x1 6) (o_lt (M.1 (18 + ix x1) (ix 0)) fun (v17 : Int32) =>
 o_lt (bI M (18 + ix x1) (upd (M.1 (18 + ix x1)) (ix 0) x3)) fun (M18 : BC) =>
 some (v17, M18))
 else
 o_ck (inB x1 6) (o_lt (M.1 (18 + ix x1) (ix 3)) fun (v14 : Int32) =>
 o_lt (bI M (18 + ix x1) (upd (M.1 (18 + ix x1)) (ix 3) x3)) fun (M15 : BC) =>
 some (v14, M15)))))))
abbrev rm_X3_change : Room := { frames := 2, cells := 0, slots := 0, locals := 46 }
set_option maxHeartbeats 4000000 in
set_option maxRecDepth 100000 in
theorem m_X3_change (l : Launch) (D : va_G) (g : Nat → ClassId) (sz : Nat) (adM : Nat → Nat) (kM : Option Nat) (tM : Option Nat) (M : BC) (x1 : Int32) (x2 : Int32) (x3 : Int32) (rO : Int32) (MO : BC) (hf : f_X3_change M x1 x2 x3 = some (rO, MO)) : bMet (S := Unit) l yX3_change (ws_ yX3_change cX3_change 6 (some .int)) rm_X3_change D g sz [.ref (adM 0), .int x1, .int x2, .int x3] [mW g adM kM tM M] (fun _ => True) (fun _ => some (.int rO)) (fun _ => [mW g adM kM tM MO]) := by
  refine b_met (by decide) (Nat.le_of_ble_eq_true rfl) ?_
  intro p e s m args below meth c A Q ls hx hb hml hr hlk hown hname hts hE hl hW
  revert hW; generalize s.heap = H; intro hW
  have hl : lv_has ls 6 [(0, .ref (adM 0)), (1, .int x1), (2, .int x2), (3, .int x3)] := hl
  rw [f_X3_change] at hf
  refine lv_aload_n hx hb dX3_change_0 rfl (lv_at hl 0 rfl) ?_
  refine lv_iload_n hx hb dX3_change_1 rfl (lv_at hl 1 rfl) ?_
  obtain ⟨r1, hc1, hf⟩ := o_b1s hf
  have hp1 : List.Perm [mW g adM kM tM M] ([mW g adM kM tM M] ++ []) := b_perm [0] [] 1 rfl rfl rfl rfl
  refine b_call0 ⟨rfl, rfl⟩ (va_runV (As := [.int x1]) (rest := []) ⟨hx, hb, hml, hown, hts⟩ (m_X3_isInn l D g H.size adM kM tM M x1 r1 hc1) (cwV 1 hts (lw_V q1651 q1653 qs41 q79 q1654) rfl rfl rfl (by decide +kernel) ⟨Nat.le_of_ble_eq_true rfl, Nat.le_of_ble_eq_true rfl⟩) (b_preV (pp := 0) (q := 0) hW hp1 rfl mW_0 rfl) rfl rfl hl.1 rfl (lv_room (Nat.le_of_ble_eq_true rfl)) dX3_change_2 ⟨Nat.le_of_ble_eq_true rfl, Nat.le_of_ble_eq_true rfl⟩) hW hp1 (fun _ _ H locs hW => ?_)
  have hW : bW D g A s H locs [mW g adM kM tM M] := hW
  refine lv_if_eq (tgt := 40) hx hb dX3_change_5 (by decide) (fun c2 => ?_) (fun c2 => ?_)
  · have hf := o_t hf c2
    refine lv_aload_n hx hb dX3_change_40 rfl (lv_at hl 0 rfl) ?_
    refine lv_bipush (v := (-2)) hx hb dX3_change_41 (by decide) ?_
    obtain ⟨r3, M4, hc4, hf⟩ := o_b2s hf
    have hp4 : List.Perm [mW g adM kM tM M] ([mW g adM kM tM M] ++ []) := b_perm [0] [] 1 rfl rfl rfl rfl
    refine b_call0 ⟨rfl, rfl⟩ (va_runV (As := [.int (-2)]) (rest := []) ⟨hx, hb, hml, hown, hts⟩ (m_X3_refuse l D g H.size adM kM tM M (-2) r3 M4 hc4) (cwV 1 hts (lw_V q1572 q1574 qs33 q79 q1575) rfl rfl rfl (by decide +kernel) ⟨Nat.le_of_ble_eq_true rfl, Nat.le_of_ble_eq_true rfl⟩) (b_preV (pp := 0) (q := 0) hW hp4 rfl mW_0 rfl) rfl rfl hl.1 rfl (lv_room (Nat.le_of_ble_eq_true rfl)) dX3_change_43 ⟨Nat.le_of_ble_eq_true rfl, Nat.le_of_ble_eq_true rfl⟩) hW hp4 (fun _ _ H locs hW => ?_)
    have hW : bW D g A s H locs [mW g adM kM tM M4] := hW
    cases hf
    exact b_iret hx hb hr hlk hE hW () rfl trivial rfl dX3_change_46
  · have hf := o_f hf c2
    refine lv_iload_n hx hb dX3_change_8 rfl (lv_at hl 2 rfl) ?_
    refine lv_i2l hx hb dX3_change_9 rfl ?_
    refine lv_lconst (v := 0) hx hb dX3_change_10 (by decide) ?_
    refine lv_lconst (v := 1) hx hb dX3_change_11 (by decide) ?_
    obtain ⟨r5, hc5, hf⟩ := o_b1s hf
    have hp5 : List.Perm [mW g adM kM tM M] ([] ++ [mW g adM kM tM M]) := b_perm [] [0] 1 rfl rfl rfl rfl
    refine b_call0 ⟨rfl, rfl⟩ (va_runS (As := [.long x2.toInt64, .long 0, .long 1]) (rest := []) ⟨hx, hb, hml, hown, hts⟩ (m_X3_in l D g H.size x2.toInt64 0 1 r5 hc5) (va_cwS 3 hts (lw_S q1567 q1568 q79 q1569) rfl rfl rfl (by decide +kernel) ⟨Nat.le_of_ble_eq_true rfl, Nat.le_of_ble_eq_true rfl⟩) (b_preS hW hp5) rfl rfl hl.1 rfl (lv_room (Nat.le_of_ble_eq_true rfl)) dX3_change_12 ⟨Nat.le_of_ble_eq_true rfl, Nat.le_of_ble_eq_true rfl⟩) hW hp5 (fun _ _ H locs hW => ?_)
    have hW : bW D g A s H locs [mW g adM kM tM M] := hW
    refine lv_if_eq (tgt := 40) hx hb dX3_change_15 (by decide) (fun c6 => ?_) (fun c6 => ?_)
    · have hf := o_t hf c6
      refine lv_aload_n hx hb dX3_change_40 rfl (lv_at hl 0 rfl) ?_
      refine lv_bipush (v := (-2)) hx hb dX3_change_41 (by decide) ?_
      obtain ⟨r7, M8, hc8, hf⟩ := o_b2s hf
      have hp8 : List.Perm [mW g adM kM tM M] ([mW g adM kM tM M] ++ []) := b_perm [0] [] 1 rfl rfl rfl rfl
      refine b_call0 ⟨rfl, rfl⟩ (va_runV (As := [.int (-2)]) (rest := []) ⟨hx, hb, hml, hown, hts⟩ (m_X3_refuse l D g H.size adM kM tM M (-2) r7 M8 hc8) (cwV 1 hts (lw_V q1572 q1574 qs33 q79 q1575) rfl rfl rfl (by decide +kernel) ⟨Nat.le_of_ble_eq_true rfl, Nat.le_of_ble_eq_true rfl⟩) (b_preV (pp := 0) (q := 0) hW hp8 rfl mW_0 rfl) rfl rfl hl.1 rfl (lv_room (Nat.le_of_ble_eq_true rfl)) dX3_change_43 ⟨Nat.le_of_ble_eq_true rfl, Nat.le_of_ble_eq_true rfl⟩) hW hp8 (fun _ _ H locs hW => ?_)
      have hW : bW D g A s H locs [mW g adM kM tM M8] := hW
      cases hf
      exact b_iret hx hb hr hlk hE hW () rfl trivial rfl dX3_change_46
    · have hf := o_f hf c6
      refine lv_iload_n hx hb dX3_change_18 rfl (lv_at hl 3 rfl) ?_
      refine lv_i2l hx hb dX3_change_19 rfl ?_
      refine lv_lconst (v := 0) hx hb dX3_change_20 (by decide) ?_
      refine lv_iload_n hx hb dX3_change_21 rfl (lv_at hl 2 rfl) ?_
      refine lv_if_ne (tgt := 31) hx hb dX3_change_22 (by decide) (fun c9 => ?_) (fun c9 => ?_)
      · have hf := o_f hf c9
        refine lv_ldc2 (v := 99) hx hb hown (hts _ q1637) dX3_change_31 ?_
        obtain ⟨r10, hc10, hf⟩ := o_b1s hf
        have hp10 : List.Perm [mW g adM kM tM M] ([] ++ [mW g adM kM tM M]) := b_perm [] [0] 1 rfl rfl rfl rfl
        refine b_call0 ⟨rfl, rfl⟩ (va_runS (As := [.long x3.toInt64, .long 0, .long 99]) (rest := []) ⟨hx, hb, hml, hown, hts⟩ (m_X3_in l D g H.size x3.toInt64 0 99 r10 hc10) (va_cwS 3 hts (lw_S q1567 q1568 q79 q1569) rfl rfl rfl (by decide +kernel) ⟨Nat.le_of_ble_eq_true rfl, Nat.le_of_ble_eq_true rfl⟩) (b_preS hW hp10) rfl rfl hl.1 rfl (lv_room (Nat.le_of_ble_eq_true rfl)) dX3_change_34 ⟨Nat.le_of_ble_eq_true rfl, Nat.le_of_ble_eq_true rfl⟩) hW hp10 (fun _ _ H locs hW => ?_)
        have hW : bW D g A s H locs [mW g adM kM tM M] := hW
        refine lv_if_ne (tgt := 47) hx hb dX3_change_37 (by decide) (fun c11 => ?_) (fun c11 => ?_)
        · have hf := o_f hf c11
          refine lv_iload_n hx hb dX3_change_47 rfl (lv_at hl 2 rfl) ?_
          refine lv_if_ne (tgt := 55) hx hb dX3_change_48 (by decide) (fun c12 => ?_) (fun c12 => ?_)
          · have hf := o_f hf c12
            refine lv_iconst (v := 3) hx hb dX3_change_55 (by decide) ?_
            refine lv_istore (lv' := [(4, .int 3), (0, .ref (adM 0)), (1, .int x1), (2, .int x2), (3, .int x3)]) hx hb dX3_change_56 hl (by decide) rfl (fun ls hl => ?_)
            refine lv_aload_n hx hb dX3_change_58 rfl (lv_at hl 1 rfl) ?_
            refine b_get hx hb hts in_X3 hown hW 0 0 3 10 rfl mW_0 rfl (by decide) ⟨rfl, rfl, rfl⟩ (hts _ q1469) mW_g10 dX3_change_59 ?_
            refine lv_iload_n hx hb dX3_change_62 rfl (lv_at hl 2 rfl) ?_
            obtain ⟨h13, hf⟩ := o_cs hf
            refine b_agrI hx hb hW 0 17 rfl mW_17 h13 dX3_change_63 ?_
            refine lv_iload hx hb dX3_change_64 (lv_at hl 0 rfl) ?_
            refine b_iald hx hb hW 0 (18 + ix x1) rfl (mW_r18 (inB_lt h13)) (by decide) dX3_change_66 ?_
            obtain ⟨v14, ev14, hf⟩ := o_ls hf
            refine b_topi ev14 ?_
            refine lv_istore (lv' := [(5, .int v14), (4, .int 3), (0, .ref (adM 0)), (1, .int x1), (2, .int x2), (3, .int x3)]) hx hb dX3_change_67 hl (by decide) rfl (fun ls hl => ?_)
            refine lv_aload_n hx hb dX3_change_69 rfl (lv_at hl 2 rfl) ?_
            refine b_get hx hb hts in_X3 hown hW 0 0 3 10 rfl mW_0 rfl (by decide) ⟨rfl, rfl, rfl⟩ (hts _ q1469) mW_g10 dX3_change_70 ?_
            refine lv_iload_n hx hb dX3_change_73 rfl (lv_at hl 3 rfl) ?_
            refine b_agrI hx hb hW 0 17 rfl mW_17 h13 dX3_change_74 ?_
            refine lv_iload hx hb dX3_change_75 (lv_at hl 1 rfl) ?_
            refine lv_iload_n hx hb dX3_change_77 rfl (lv_at hl 5 rfl) ?_
            obtain ⟨M15, eM15, hf⟩ := o_ls hf
            refine b_iast hx hb hW 0 (18 + ix x1) rfl (mW_r18 (inB_lt h13)) (mW_rs18 (inB_lt h13) eM15) rfl (by decide) dX3_change_78 (fun H locs hW => ?_)
            have hW : bW D g A s H locs [mW g adM kM tM M15] := hW
            refine lv_iload hx hb dX3_change_79 (lv_at hl 0 rfl) ?_
            cases hf
            exact b_iret hx hb hr hlk hE hW () rfl trivial rfl dX3_change_81
          · have hf := o_t hf c12
            refine lv_iconst (v := 0) hx hb dX3_change_51 (by decide) ?_
            refine lv_goto (tgt := 56) hx hb dX3_change_52 (by decide) ?_
            refine lv_istore (lv' := [(4, .int 0), (0, .ref (adM 0)), (1, .int x1), (2, .int x2), (3, .int x3)]) hx hb dX3_change_56 hl (by decide) rfl (fun ls hl => ?_)
            refine lv_aload_n hx hb dX3_change_58 rfl (lv_at hl 1 rfl) ?_
            refine b_get hx hb hts in_X3 hown hW 0 0 3 10 rfl mW_0 rfl (by decide) ⟨rfl, rfl, rfl⟩ (hts _ q1469) mW_g10 dX3_change_59 ?_
            refine lv_iload_n hx hb dX3_change_62 rfl (lv_at hl 2 rfl) ?_
            obtain ⟨h16, hf⟩ := o_cs hf
            refine b_agrI hx hb hW 0 17 rfl mW_17 h16 dX3_change_63 ?_
            refine lv_iload hx hb dX3_change_64 (lv_at hl 0 rfl) ?_
            refine b_iald hx hb hW 0 (18 + ix x1) rfl (mW_r18 (inB_lt h16)) (by decide) dX3_change_66 ?_
            obtain ⟨v17, ev17, hf⟩ := o_ls hf
            refine b_topi ev17 ?_
            refine lv_istore (lv' := [(5, .int v17), (4, .int 0), (0, .ref (adM 0)), (1, .int x1), (2, .int x2), (3, .int x3)]) hx hb dX3_change_67 hl (by decide) rfl (fun ls hl => ?_)
            refine lv_aload_n hx hb dX3_change_69 rfl (lv_at hl 2 rfl) ?_
            refine b_get hx hb hts in_X3 hown hW 0 0 3 10 rfl mW_0 rfl (by decide) ⟨rfl, rfl, rfl⟩ (hts _ q1469) mW_g10 dX3_change_70 ?_
            refine lv_iload_n hx hb dX3_change_73 rfl (lv_at hl 3 rfl) ?_
            refine b_agrI hx hb hW 0 17 rfl mW_17 h16 dX3_change_74 ?_
            refine lv_iload hx hb dX3_change_75 (lv_at hl 1 rfl) ?_
            refine lv_iload_n hx hb dX3_change_77 rfl (lv_at hl 5 rfl) ?_
            obtain ⟨M18, eM18, hf⟩ := o_ls hf
            refine b_iast hx hb hW 0 (18 + ix x1) rfl (mW_r18 (inB_lt h16)) (mW_rs18 (inB_lt h16) eM18) rfl (by decide) dX3_change_78 (fun H locs hW => ?_)
            have hW : bW D g A s H locs [mW g adM kM tM M18] := hW
            refine lv_iload hx hb dX3_change_79 (lv_at hl 0 rfl) ?_
            cases hf
            exact b_iret hx hb hr hlk hE hW () rfl trivial rfl dX3_change_81
        · have hf := o_t hf c11
          refine lv_aload_n hx hb dX3_change_40 rfl (lv_at hl 0 rfl) ?_
          refine lv_bipush (v := (-2)) hx hb dX3_change_41 (by decide) ?_
          obtain ⟨r19, M20, hc20, hf⟩ := o_b2s hf
          have hp20 : List.Perm [mW g adM kM tM M] ([mW g adM kM tM M] ++ []) := b_perm [0] [] 1 rfl rfl rfl rfl
          refine b_call0 ⟨rfl, rfl⟩ (va_runV (As := [.int (-2)]) (rest := []) ⟨hx, hb, hml, hown, hts⟩ (m_X3_refuse l D g H.size adM kM tM M (-2) r19 M20 hc20) (cwV 1 hts (lw_V q1572 q1574 qs33 q79 q1575) rfl rfl rfl (by decide +kernel) ⟨Nat.le_of_ble_eq_true rfl, Nat.le_of_ble_eq_true rfl⟩) (b_preV (pp := 0) (q := 0) hW hp20 rfl mW_0 rfl) rfl rfl hl.1 rfl (lv_room (Nat.le_of_ble_eq_true rfl)) dX3_change_43 ⟨Nat.le_of_ble_eq_true rfl, Nat.le_of_ble_eq_true rfl⟩) hW hp20 (fun _ _ H locs hW => ?_)
          have hW : bW D g A s H locs [mW g adM kM tM M20] := hW
          cases hf
          exact b_iret hx hb hr hlk hE hW () rfl trivial rfl dX3_change_46
      · have hf := o_t hf c9
        refine lv_ldc2 (v := 100) hx hb hown (hts _ q1635) dX3_change_25 ?_
        refine lv_goto (tgt := 34) hx hb dX3_change_28 (by decide) ?_
        obtain ⟨r21, hc21, hf⟩ := o_b1s hf
        have hp21 : List.Perm [mW g adM kM tM M] ([] ++ [mW g adM kM tM M]) := b_perm [] [0] 1 rfl rfl rfl rfl
        refine b_call0 ⟨rfl, rfl⟩ (va_runS (As := [.long x3.toInt64, .long 0, .long 100]) (rest := []) ⟨hx, hb, hml, hown, hts⟩ (m_X3_in l D g H.size x3.toInt64 0 100 r21 hc21) (va_cwS 3 hts (lw_S q1567 q1568 q79 q1569) rfl rfl rfl (by decide +kernel) ⟨Nat.le_of_ble_eq_true rfl, Nat.le_of_ble_eq_true rfl⟩) (b_preS hW hp21) rfl rfl hl.1 rfl (lv_room (Nat.le_of_ble_eq_true rfl)) dX3_change_34 ⟨Nat.le_of_ble_eq_true rfl, Nat.le_of_ble_eq_true rfl⟩) hW hp21 (fun _ _ H locs hW => ?_)
        have hW : bW D g A s H locs [mW g adM kM tM M] := hW
        refine lv_if_ne (tgt := 47) hx hb dX3_change_37 (by decide) (fun c22 => ?_) (fun c22 => ?_)
        · have hf := o_f hf c22
          refine lv_iload_n hx hb dX3_change_47 rfl (lv_at hl 2 rfl) ?_
          refine lv_if_ne (tgt := 55) hx hb dX3_change_48 (by decide) (fun c23 => ?_) (fun c23 => ?_)
          · have hf := o_f hf c23
            refine lv_iconst (v := 3) hx hb dX3_change_55 (by decide) ?_
            refine lv_istore (lv' := [(4, .int 3), (0, .ref (adM 0)), (1, .int x1), (2, .int x2), (3, .int x3)]) hx hb dX3_change_56 hl (by decide) rfl (fun ls hl => ?_)
            refine lv_aload_n hx hb dX3_change_58 rfl (lv_at hl 1 rfl) ?_
            refine b_get hx hb hts in_X3 hown hW 0 0 3 10 rfl mW_0 rfl (by decide) ⟨rfl, rfl, rfl⟩ (hts _ q1469) mW_g10 dX3_change_59 ?_
            refine lv_iload_n hx hb dX3_change_62 rfl (lv_at hl 2 rfl) ?_
            obtain ⟨h24, hf⟩ := o_cs hf
            refine b_agrI hx hb hW 0 17 rfl mW_17 h24 dX3_change_63 ?_
            refine lv_iload hx hb dX3_change_64 (lv_at hl 0 rfl) ?_
            refine b_iald hx hb hW 0 (18 + ix x1) rfl (mW_r18 (inB_lt h24)) (by decide) dX3_change_66 ?_
            obtain ⟨v25, ev25, hf⟩ := o_ls hf
            refine b_topi ev25 ?_
            refine lv_istore (lv' := [(5, .int v25), (4, .int 3), (0, .ref (adM 0)), (1, .int x1), (2, .int x2), (3, .int x3)]) hx hb dX3_change_67 hl (by decide) rfl (fun ls hl => ?_)
            refine lv_aload_n hx hb dX3_change_69 rfl (lv_at hl 2 rfl) ?_
            refine b_get hx hb hts in_X3 hown hW 0 0 3 10 rfl mW_0 rfl (by decide) ⟨rfl, rfl, rfl⟩ (hts _ q1469) mW_g10 dX3_change_70 ?_
            refine lv_iload_n hx hb dX3_change_73 rfl (lv_at hl 3 rfl) ?_
            refine b_agrI hx hb hW 0 17 rfl mW_17 h24 dX3_change_74 ?_
            refine lv_iload hx hb dX3_change_75 (lv_at hl 1 rfl) ?_
            refine lv_iload_n hx hb dX3_change_77 rfl (lv_at hl 5 rfl) ?_
            obtain ⟨M26, eM26, hf⟩ := o_ls hf
            refine b_iast hx hb hW 0 (18 + ix x1) rfl (mW_r18 (inB_lt h24)) (mW_rs18 (inB_lt h24) eM26) rfl (by decide) dX3_change_78 (fun H locs hW => ?_)
            have hW : bW D g A s H locs [mW g adM kM tM M26] := hW
            refine lv_iload hx hb dX3_change_79 (lv_at hl 0 rfl) ?_
            cases hf
            exact b_iret hx hb hr hlk hE hW () rfl trivial rfl dX3_change_81
          · have hf := o_t hf c23
            refine lv_iconst (v := 0) hx hb dX3_change_51 (by decide) ?_
            refine lv_goto (tgt := 56) hx hb dX3_change_52 (by decide) ?_
            refine lv_istore (lv' := [(4, .int 0), (0, .ref (adM 0)), (1, .int x1), (2, .int x2), (3, .int x3)]) hx hb dX3_change_56 hl (by decide) rfl (fun ls hl => ?_)
            refine lv_aload_n hx hb dX3_change_58 rfl (lv_at hl 1 rfl) ?_
            refine b_get hx hb hts in_X3 hown hW 0 0 3 10 rfl mW_0 rfl (by decide) ⟨rfl, rfl, rfl⟩ (hts _ q1469) mW_g10 dX3_change_59 ?_
            refine lv_iload_n hx hb dX3_change_62 rfl (lv_at hl 2 rfl) ?_
            obtain ⟨h27, hf⟩ := o_cs hf
            refine b_agrI hx hb hW 0 17 rfl mW_17 h27 dX3_change_63 ?_
            refine lv_iload hx hb dX3_change_64 (lv_at hl 0 rfl) ?_
            refine b_iald hx hb hW 0 (18 + ix x1) rfl (mW_r18 (inB_lt h27)) (by decide) dX3_change_66 ?_
            obtain ⟨v28, ev28, hf⟩ := o_ls hf
            refine b_topi ev28 ?_
            refine lv_istore (lv' := [(5, .int v28), (4, .int 0), (0, .ref (adM 0)), (1, .int x1), (2, .int x2), (3, .int x3)]) hx hb dX3_change_67 hl (by decide) rfl (fun ls hl => ?_)
            refine lv_aload_n hx hb dX3_change_69 rfl (lv_at hl 2 rfl) ?_
            refine b_get hx hb hts in_X3 hown hW 0 0 3 10 rfl mW_0 rfl (by decide) ⟨rfl, rfl, rfl⟩ (hts _ q1469) mW_g10 dX3_change_70 ?_
            refine lv_iload_n hx hb dX3_change_73 rfl (lv_at hl 3 rfl) ?_
            refine b_agrI hx hb hW 0 17 rfl mW_17 h27 dX3_change_74 ?_
            refine lv_iload hx hb dX3_change_75 (lv_at hl 1 rfl) ?_
            refine lv_iload_n hx hb dX3_change_77 rfl (lv_at hl 5 rfl) ?_
            obtain ⟨M29, eM29, hf⟩ := o_ls hf
            refine b_iast hx hb hW 0 (18 + ix x1) rfl (mW_r18 (inB_lt h27)) (mW_rs18 (inB_lt h27) eM29) rfl (by decide) dX3_change_78 (fun H locs hW => ?_)
            have hW : bW D g A s H locs [mW g adM kM tM M29] := hW
            refine lv_iload hx hb dX3_change_79 (lv_at hl 0 rfl) ?_
            cases hf
            exact b_iret hx hb hr hlk hE hW () rfl trivial rfl dX3_change_81
        · have hf := o_t hf c22
          refine lv_aload_n hx hb dX3_change_40 rfl (lv_at hl 0 rfl) ?_
          refine lv_bipush (v := (-2)) hx hb dX3_change_41 (by decide) ?_
          obtain ⟨r30, M31, hc31, hf⟩ := o_b2s hf
          have hp31 : List.Perm [mW g adM kM tM M] ([mW g adM kM tM M] ++ []) := b_perm [0] [] 1 rfl rfl rfl rfl
          refine b_call0 ⟨rfl, rfl⟩ (va_runV (As := [.int (-2)]) (rest := []) ⟨hx, hb, hml, hown, hts⟩ (m_X3_refuse l D g H.size adM kM tM M (-2) r30 M31 hc31) (cwV 1 hts (lw_V q1572 q1574 qs33 q79 q1575) rfl rfl rfl (by decide +kernel) ⟨Nat.le_of_ble_eq_true rfl, Nat.le_of_ble_eq_true rfl⟩) (b_preV (pp := 0) (q := 0) hW hp31 rfl mW_0 rfl) rfl rfl hl.1 rfl (lv_room (Nat.le_of_ble_eq_true rfl)) dX3_change_43 ⟨Nat.le_of_ble_eq_true rfl, Nat.le_of_ble_eq_true rfl⟩) hW hp31 (fun _ _ H locs hW => ?_)
          have hW : bW D g A s H locs [mW g adM kM tM M31] := hW
          cases hf
          exact b_iret hx hb hr hlk hE hW () rfl trivial rfl dX3_change_46
def f_X3_say (M : BC) (x1 : Int32) (x2 : Int32) : Option (Int32 × BC) :=
 o_b1 (f_X3_isInn M x1) fun (r1 : Int32) =>
 (if r1 = 0 then
 o_b2 (f_X3_refuse M (-2)) fun (r3 : Int32) (M4 : BC) =>
 some (r3, M4)
 else
 o_b1 (f_X3_in x2.toInt64 (-1) 100) fun (r5 : Int32) =>
 (if r5 = 0 then
 o_b2 (f_X3_refuse M (-2)) fun (r10 : Int32) (M11 : BC) =>
 some (r10, M11)
 else
 o_ck (inB x1 6) (o_lt (M.1 (18 + ix x1) (ix 4)) fun (v8 : Int32) =>
 o_lt (bI M (18 + ix x1) (upd (M.1 (18 + ix x1)) (ix 4) x2)) fun (M9 : BC) =>
 some (v8, M9))))
abbrev rm_X3_say : Room := { frames := 2, cells := 0, slots := 0, locals := 46 }
set_option maxHeartbeats 4000000 in
set_option maxRecDepth 100000 in
theorem m_X3_say (l : Launch) (D : va_G) (g : Nat → ClassId) (sz : Nat) (adM : Nat → Nat) (kM : Option Nat) (tM : Option Nat) (M : BC) (x1 : Int32) (x2 : Int32) (rO : Int32) (MO : BC) (hf : f_X3_say M x1 x2 = some (rO, MO)) : bMet (S := Unit) l yX3_say (ws_ yX3_say cX3_say 4 (some .int)) rm_X3_say D g sz [.ref (adM 0), .int x1, .int x2] [mW g adM kM tM M] (fun _ => True) (fun _ => some (.int rO)) (fun _ => [mW g adM kM tM MO]) := by
  refine b_met (by decide) (Nat.le_of_ble_eq_true rfl) ?_
  intro p e s m args below meth c A Q ls hx hb hml hr hlk hown hname hts hE hl hW
  revert hW; generalize s.heap = H; intro hW
  have hl : lv_has ls 4 [(0, .ref (adM 0)), (1, .int x1), (2, .int x2)] := hl
  rw [f_X3_say] at hf
  refine lv_aload_n hx hb dX3_say_0 rfl (lv_at hl 0 rfl) ?_
  refine lv_iload_n hx hb dX3_say_1 rfl (lv_at hl 1 rfl) ?_
  obtain ⟨r1, hc1, hf⟩ := o_b1s hf
  have hp1 : List.Perm [mW g adM kM tM M] ([mW g adM kM tM M] ++ []) := b_perm [0] [] 1 rfl rfl rfl rfl
  refine b_call0 ⟨rfl, rfl⟩ (va_runV (As := [.int x1]) (rest := []) ⟨hx, hb, hml, hown, hts⟩ (m_X3_isInn l D g H.size adM kM tM M x1 r1 hc1) (cwV 1 hts (lw_V q1651 q1653 qs41 q79 q1654) rfl rfl rfl (by decide +kernel) ⟨Nat.le_of_ble_eq_true rfl, Nat.le_of_ble_eq_true rfl⟩) (b_preV (pp := 0) (q := 0) hW hp1 rfl mW_0 rfl) rfl rfl hl.1 rfl (lv_room (Nat.le_of_ble_eq_true rfl)) dX3_say_2 ⟨Nat.le_of_ble_eq_true rfl, Nat.le_of_ble_eq_true rfl⟩) hW hp1 (fun _ _ H locs hW => ?_)
  have hW : bW D g A s H locs [mW g adM kM tM M] := hW
  refine lv_if_eq (tgt := 22) hx hb dX3_say_5 (by decide) (fun c2 => ?_) (fun c2 => ?_)
  · have hf := o_t hf c2
    refine lv_aload_n hx hb dX3_say_22 rfl (lv_at hl 0 rfl) ?_
    refine lv_bipush (v := (-2)) hx hb dX3_say_23 (by decide) ?_
    obtain ⟨r3, M4, hc4, hf⟩ := o_b2s hf
    have hp4 : List.Perm [mW g adM kM tM M] ([mW g adM kM tM M] ++ []) := b_perm [0] [] 1 rfl rfl rfl rfl
    refine b_call0 ⟨rfl, rfl⟩ (va_runV (As := [.int (-2)]) (rest := []) ⟨hx, hb, hml, hown, hts⟩ (m_X3_refuse l D g H.size adM kM tM M (-2) r3 M4 hc4) (cwV 1 hts (lw_V q1572 q1574 qs33 q79 q1575) rfl rfl rfl (by decide +kernel) ⟨Nat.le_of_ble_eq_true rfl, Nat.le_of_ble_eq_true rfl⟩) (b_preV (pp := 0) (q := 0) hW hp4 rfl mW_0 rfl) rfl rfl hl.1 rfl (lv_room (Nat.le_of_ble_eq_true rfl)) dX3_say_25 ⟨Nat.le_of_ble_eq_true rfl, Nat.le_of_ble_eq_true rfl⟩) hW hp4 (fun _ _ H locs hW => ?_)
    have hW : bW D g A s H locs [mW g adM kM tM M4] := hW
    cases hf
    exact b_iret hx hb hr hlk hE hW () rfl trivial rfl dX3_say_28
  · have hf := o_f hf c2
    refine lv_iload_n hx hb dX3_say_8 rfl (lv_at hl 2 rfl) ?_
    refine lv_i2l hx hb dX3_say_9 rfl ?_
    refine lv_ldc2 (v := (-1)) hx hb hown (hts _ q1659) dX3_say_10 ?_
    refine lv_ldc2 (v := 100) hx hb hown (hts _ q1635) dX3_say_13 ?_
    obtain ⟨r5, hc5, hf⟩ := o_b1s hf
    have hp5 : List.Perm [mW g adM kM tM M] ([] ++ [mW g adM kM tM M]) := b_perm [] [0] 1 rfl rfl rfl rfl
    refine b_call0 ⟨rfl, rfl⟩ (va_runS (As := [.long x2.toInt64, .long (-1), .long 100]) (rest := []) ⟨hx, hb, hml, hown, hts⟩ (m_X3_in l D g H.size x2.toInt64 (-1) 100 r5 hc5) (va_cwS 3 hts (lw_S q1567 q1568 q79 q1569) rfl rfl rfl (by decide +kernel) ⟨Nat.le_of_ble_eq_true rfl, Nat.le_of_ble_eq_true rfl⟩) (b_preS hW hp5) rfl rfl hl.1 rfl (lv_room (Nat.le_of_ble_eq_true rfl)) dX3_say_16 ⟨Nat.le_of_ble_eq_true rfl, Nat.le_of_ble_eq_true rfl⟩) hW hp5 (fun _ _ H locs hW => ?_)
    have hW : bW D g A s H locs [mW g adM kM tM M] := hW
    refine lv_if_ne (tgt := 29) hx hb dX3_say_19 (by decide) (fun c6 => ?_) (fun c6 => ?_)
    · have hf := o_f hf c6
      refine lv_aload_n hx hb dX3_say_29 rfl (lv_at hl 0 rfl) ?_
      refine b_get hx hb hts in_X3 hown hW 0 0 3 10 rfl mW_0 rfl (by decide) ⟨rfl, rfl, rfl⟩ (hts _ q1469) mW_g10 dX3_say_30 ?_
      refine lv_iload_n hx hb dX3_say_33 rfl (lv_at hl 1 rfl) ?_
      obtain ⟨h7, hf⟩ := o_cs hf
      refine b_agrI hx hb hW 0 17 rfl mW_17 h7 dX3_say_34 ?_
      refine lv_iconst (v := 4) hx hb dX3_say_35 (by decide) ?_
      refine b_iald hx hb hW 0 (18 + ix x1) rfl (mW_r18 (inB_lt h7)) (by decide) dX3_say_36 ?_
      obtain ⟨v8, ev8, hf⟩ := o_ls hf
      refine b_topi ev8 ?_
      refine lv_istore_n (lv' := [(3, .int v8), (0, .ref (adM 0)), (1, .int x1), (2, .int x2)]) hx hb dX3_say_37 rfl hl (by decide) rfl (fun ls hl => ?_)
      refine lv_aload_n hx hb dX3_say_38 rfl (lv_at hl 1 rfl) ?_
      refine b_get hx hb hts in_X3 hown hW 0 0 3 10 rfl mW_0 rfl (by decide) ⟨rfl, rfl, rfl⟩ (hts _ q1469) mW_g10 dX3_say_39 ?_
      refine lv_iload_n hx hb dX3_say_42 rfl (lv_at hl 2 rfl) ?_
      refine b_agrI hx hb hW 0 17 rfl mW_17 h7 dX3_say_43 ?_
      refine lv_iconst (v := 4) hx hb dX3_say_44 (by decide) ?_
      refine lv_iload_n hx hb dX3_say_45 rfl (lv_at hl 3 rfl) ?_
      obtain ⟨M9, eM9, hf⟩ := o_ls hf
      refine b_iast hx hb hW 0 (18 + ix x1) rfl (mW_r18 (inB_lt h7)) (mW_rs18 (inB_lt h7) eM9) rfl (by decide) dX3_say_46 (fun H locs hW => ?_)
      have hW : bW D g A s H locs [mW g adM kM tM M9] := hW
      refine lv_iload_n hx hb dX3_say_47 rfl (lv_at hl 0 rfl) ?_
      cases hf
      exact b_iret hx hb hr hlk hE hW () rfl trivial rfl dX3_say_48
    · have hf := o_t hf c6
      refine lv_aload_n hx hb dX3_say_22 rfl (lv_at hl 0 rfl) ?_
      refine lv_bipush (v := (-2)) hx hb dX3_say_23 (by decide) ?_
      obtain ⟨r10, M11, hc11, hf⟩ := o_b2s hf
      have hp11 : List.Perm [mW g adM kM tM M] ([mW g adM kM tM M] ++ []) := b_perm [0] [] 1 rfl rfl rfl rfl
      refine b_call0 ⟨rfl, rfl⟩ (va_runV (As := [.int (-2)]) (rest := []) ⟨hx, hb, hml, hown, hts⟩ (m_X3_refuse l D g H.size adM kM tM M (-2) r10 M11 hc11) (cwV 1 hts (lw_V q1572 q1574 qs33 q79 q1575) rfl rfl rfl (by decide +kernel) ⟨Nat.le_of_ble_eq_true rfl, Nat.le_of_ble_eq_true rfl⟩) (b_preV (pp := 0) (q := 0) hW hp11 rfl mW_0 rfl) rfl rfl hl.1 rfl (lv_room (Nat.le_of_ble_eq_true rfl)) dX3_say_25 ⟨Nat.le_of_ble_eq_true rfl, Nat.le_of_ble_eq_true rfl⟩) hW hp11 (fun _ _ H locs hW => ?_)
      have hW : bW D g A s H locs [mW g adM kM tM M11] := hW
      cases hf
      exact b_iret hx hb hr hlk hE hW () rfl trivial rfl dX3_say_28
def f_X3_isSet (M : BC) (x1 : Int32) : Option Int32 :=
 o_b1 (f_X3_in x1.toInt64 0 (((1 <<< ((M.1 0 1) &&& 31)) - 1).toInt64)) fun (r1 : Int32) =>
 o_ck (decide (r1 = 0) || decide (r1 = 1)) (some r1)
abbrev rm_X3_isSet : Room := { frames := 1, cells := 0, slots := 0, locals := 25 }
set_option maxHeartbeats 4000000 in
set_option maxRecDepth 100000 in
theorem m_X3_isSet (l : Launch) (D : va_G) (g : Nat → ClassId) (sz : Nat) (adM : Nat → Nat) (kM : Option Nat) (tM : Option Nat) (M : BC) (x1 : Int32) (rO : Int32) (hf : f_X3_isSet M x1 = some rO) : bMet (S := Unit) l yX3_isSet (ws_ yX3_isSet cX3_isSet 2 (some .boolean)) rm_X3_isSet D g sz [.ref (adM 0), .int x1] [mW g adM kM tM M] (fun _ => True) (fun _ => some (.int rO)) (fun _ => [mW g adM kM tM M]) := by
  refine b_met (by decide) (Nat.le_of_ble_eq_true rfl) ?_
  intro p e s m args below meth c A Q ls hx hb hml hr hlk hown hname hts hE hl hW
  revert hW; generalize s.heap = H; intro hW
  have hl : lv_has ls 2 [(0, .ref (adM 0)), (1, .int x1)] := hl
  rw [f_X3_isSet] at hf
  refine lv_iload_n hx hb dX3_isSet_0 rfl (lv_at hl 1 rfl) ?_
  refine lv_i2l hx hb dX3_isSet_1 rfl ?_
  refine lv_lconst (v := 0) hx hb dX3_isSet_2 (by decide) ?_
  refine lv_iconst (v := 1) hx hb dX3_isSet_3 (by decide) ?_
  refine lv_aload_n hx hb dX3_isSet_4 rfl (lv_at hl 0 rfl) ?_
  refine b_get hx hb hts in_X3 hown hW 0 0 3 9 rfl mW_0 rfl (by decide) ⟨rfl, rfl, rfl⟩ (hts _ q1468) mW_g9 dX3_isSet_5 ?_
  refine lv_ishl hx hb dX3_isSet_8 ?_
  refine lv_iconst (v := 1) hx hb dX3_isSet_9 (by decide) ?_
  refine lv_isub hx hb dX3_isSet_10 ?_
  refine lv_i2l hx hb dX3_isSet_11 rfl ?_
  obtain ⟨r1, hc1, hf⟩ := o_b1s hf
  have hp1 : List.Perm [mW g adM kM tM M] ([] ++ [mW g adM kM tM M]) := b_perm [] [0] 1 rfl rfl rfl rfl
  refine b_call0 ⟨rfl, rfl⟩ (va_runS (As := [.long x1.toInt64, .long 0, .long (((1 <<< ((M.1 0 1) &&& 31)) - 1).toInt64)]) (rest := []) ⟨hx, hb, hml, hown, hts⟩ (m_X3_in l D g H.size x1.toInt64 0 (((1 <<< ((M.1 0 1) &&& 31)) - 1).toInt64) r1 hc1) (va_cwS 3 hts (lw_S q1567 q1568 q79 q1569) rfl rfl rfl (by decide +kernel) ⟨Nat.le_of_ble_eq_true rfl, Nat.le_of_ble_eq_true rfl⟩) (b_preS hW hp1) rfl rfl hl.1 rfl (lv_room (Nat.le_of_ble_eq_true rfl)) dX3_isSet_12 ⟨Nat.le_of_ble_eq_true rfl, Nat.le_of_ble_eq_true rfl⟩) hW hp1 (fun _ _ H locs hW => ?_)
  have hW : bW D g A s H locs [mW g adM kM tM M] := hW
  obtain ⟨h2, hf⟩ := o_cs hf
  cases hf
  exact b_zret hx hb hr hlk hE hW () rfl trivial rfl h2 dX3_isSet_15
def f_X3_writes_L4 (x1 : Int32) (rec1 : (Int32 × Int32 × BC) → Option (Int32 × BC)) : Int32 × Int32 × BC → Option (Int32 × BC)
  | (v2, v3, M4) =>
    (if (M4.1 0 1) ≤ v3 then
     o_lt (bI M4 0 (upd (M4.1 0) 3 0)) fun (M6 : BC) =>
     some (v2, M6)
     else
     (if ((x1 >>> (v3 &&& 31)) &&& 1) = 0 then
     o_ck (inB v3 6) (o_lt (bI M4 (18 + ix v3) (upd (M4.1 (18 + ix v3)) (ix 4) (-1))) fun (M9 : BC) =>
     o_lt (v2 + 0) fun (v10 : Int32) =>
     o_lt (v3 + 1) fun (v11 : Int32) =>
     rec1 (v10, v11, M9))
     else
     o_ck (inB v3 6) (o_lt (M4.1 (18 + ix v3) (ix 0)) fun (v13 : Int32) =>
     o_lt (bI M4 (18 + ix v3) (upd (M4.1 (18 + ix v3)) (ix 4) v13)) fun (M14 : BC) =>
     o_lt (v2 + 1) fun (v15 : Int32) =>
     o_lt (v3 + 1) fun (v16 : Int32) =>
     rec1 (v15, v16, M14))))
def f_X3_writes (fu : Nat) (M : BC) (x1 : Int32) : Option (Int32 × BC) :=
 o_lp (f_X3_writes_L4 x1) fu (0, 0, M)
abbrev rm_X3_writes : Room := { frames := 0, cells := 0, slots := 0, locals := 0 }
set_option maxHeartbeats 4000000 in
set_option maxRecDepth 100000 in
theorem m_X3_writes (l : Launch) (D : va_G) (g : Nat → ClassId) (sz : Nat) (adM : Nat → Nat) (kM : Option Nat) (tM : Option Nat) (fu : Nat) (M : BC) (x1 : Int32) (rO : Int32) (MO : BC) (hf : f_X3_writes fu M x1 = some (rO, MO)) : bMet (S := Unit) l yX3_writes (ws_ yX3_writes cX3_writes 5 (some .int)) rm_X3_writes D g sz [.ref (adM 0), .int x1] [mW g adM kM tM M] (fun _ => True) (fun _ => some (.int rO)) (fun _ => [mW g adM kM tM MO]) := by
  refine b_met (by decide) (Nat.le_of_ble_eq_true rfl) ?_
  intro p e s m args below meth c A Q ls hx hb hml hr hlk hown hname hts hE hl hW
  revert hW; generalize s.heap = H; intro hW
  have hl : lv_has ls 5 [(0, .ref (adM 0)), (1, .int x1)] := hl
  rw [f_X3_writes] at hf
  refine lv_iconst (v := 0) hx hb dX3_writes_0 (by decide) ?_
  refine lv_istore_n (lv' := [(2, .int 0), (0, .ref (adM 0)), (1, .int x1)]) hx hb dX3_writes_1 rfl hl (by decide) rfl (fun ls hl => ?_)
  refine lv_iconst (v := 0) hx hb dX3_writes_2 (by decide) ?_
  refine lv_istore_n (lv' := [(3, .int 0), (2, .int 0), (0, .ref (adM 0)), (1, .int x1)]) hx hb dX3_writes_3 rfl hl (by decide) rfl (fun ls hl => ?_)
  obtain ⟨stp1, est1, hf⟩ := o_ln hf
  have L1 : ∀ (n : Nat) (v2 : Int32) (v3 : Int32) (M4 : BC) (H : Heap) (locs : List Loc) (ls : Array Slot), bW D g A s H locs [mW g adM kM tM M4] → lv_has ls 5 [(3, .int v3), (2, .int v2), (0, .ref (adM 0)), (1, .int x1)] → o_lp stp1 n (v2, v3, M4) = some (rO, MO) → W p l e rm_X3_writes s m args below meth c H locs 0 0 Q (F0 m 4 ls []) := by
    intro n1
    induction n1 with
    | zero => intro v2 v3 M4 H locs ls hW hl hf; exact (o_lz hf).elim
    | succ n1 ih1 =>
      intro v2 v3 M4 H locs ls hW hl hf
      have hf := o_lu est1 hf
      rw [f_X3_writes_L4] at hf
      refine lv_iload_n hx hb dX3_writes_4 rfl (lv_at hl 0 rfl) ?_
      refine lv_aload_n hx hb dX3_writes_5 rfl (lv_at hl 2 rfl) ?_
      refine b_get hx hb hts in_X3 hown hW 0 0 3 9 rfl mW_0 rfl (by decide) ⟨rfl, rfl, rfl⟩ (hts _ q1468) mW_g9 dX3_writes_6 ?_
      refine lv_icmp_ge (tgt := 71) hx hb dX3_writes_9 (by decide) (fun c5 => ?_) (fun c5 => ?_)
      · have hf := o_t hf c5
        refine lv_aload_n hx hb dX3_writes_71 rfl (lv_at hl 2 rfl) ?_
        refine lv_iconst (v := 0) hx hb dX3_writes_72 (by decide) ?_
        obtain ⟨M6, eM6, hf⟩ := o_ls hf
        refine b_put hx hb hts in_X3 tyX3 tyX3_ok nmX3 hown hW 0 0 3 13 rfl mW_0 (mW_p13 eM6) rfl rfl (by decide) ⟨rfl, rfl, rfl⟩ (hts _ q1472) rfl (ty := .int) rfl rfl rfl (by rw [mW_l]; decide) dX3_writes_73 (fun H locs hW => ?_)
        have hW : bW D g A s H locs [mW g adM kM tM M6] := hW
        refine lv_iload_n hx hb dX3_writes_76 rfl (lv_at hl 1 rfl) ?_
        cases hf
        exact b_iret hx hb hr hlk hE hW () rfl trivial rfl dX3_writes_77
      · have hf := o_f hf c5
        refine lv_iload_n hx hb dX3_writes_12 rfl (lv_at hl 3 rfl) ?_
        refine lv_iload_n hx hb dX3_writes_13 rfl (lv_at hl 0 rfl) ?_
        refine lv_ishr hx hb dX3_writes_14 ?_
        refine lv_iconst (v := 1) hx hb dX3_writes_15 (by decide) ?_
        refine lv_iand hx hb dX3_writes_16 ?_
        refine lv_if_eq (tgt := 24) hx hb dX3_writes_17 (by decide) (fun c7 => ?_) (fun c7 => ?_)
        · have hf := o_t hf c7
          refine lv_iconst (v := 0) hx hb dX3_writes_24 (by decide) ?_
          refine lv_istore (lv' := [(4, .int 0), (3, .int v3), (2, .int v2), (0, .ref (adM 0)), (1, .int x1)]) hx hb dX3_writes_25 hl (by decide) rfl (fun ls hl => ?_)
          refine lv_aload_n hx hb dX3_writes_27 rfl (lv_at hl 3 rfl) ?_
          refine b_get hx hb hts in_X3 hown hW 0 0 3 10 rfl mW_0 rfl (by decide) ⟨rfl, rfl, rfl⟩ (hts _ q1469) mW_g10 dX3_writes_28 ?_
          refine lv_iload_n hx hb dX3_writes_31 rfl (lv_at hl 1 rfl) ?_
          obtain ⟨h8, hf⟩ := o_cs hf
          refine b_agrI hx hb hW 0 17 rfl mW_17 h8 dX3_writes_32 ?_
          refine lv_iconst (v := 4) hx hb dX3_writes_33 (by decide) ?_
          refine lv_iload hx hb dX3_writes_34 (lv_at hl 0 rfl) ?_
          refine lv_if_eq (tgt := 50) hx hb dX3_writes_36 (by decide) (fun hc => ?_) (fun hc => absurd hc (by decide))
          refine lv_iconst (v := (-1)) hx hb dX3_writes_50 (by decide) ?_
          obtain ⟨M9, eM9, hf⟩ := o_ls hf
          refine b_iast hx hb hW 0 (18 + ix v3) rfl (mW_r18 (inB_lt h8)) (mW_rs18 (inB_lt h8) eM9) rfl (by decide) dX3_writes_51 (fun H locs hW => ?_)
          have hW : bW D g A s H locs [mW g adM kM tM M9] := hW
          refine lv_iload_n hx hb dX3_writes_52 rfl (lv_at hl 2 rfl) ?_
          refine lv_iload hx hb dX3_writes_53 (lv_at hl 0 rfl) ?_
          refine lv_if_eq (tgt := 62) hx hb dX3_writes_55 (by decide) (fun hc => ?_) (fun hc => absurd hc (by decide))
          refine lv_iconst (v := 0) hx hb dX3_writes_62 (by decide) ?_
          refine lv_iadd hx hb dX3_writes_63 ?_
          obtain ⟨v10, ev10, hf⟩ := o_ls hf
          refine b_topi ev10 ?_
          refine lv_istore_n (lv' := [(2, .int v10), (4, .int 0), (3, .int v3), (0, .ref (adM 0)), (1, .int x1)]) hx hb dX3_writes_64 rfl hl (by decide) rfl (fun ls hl => ?_)
          obtain ⟨v11, ev11, hf⟩ := o_ls hf
          refine lv_iinc (v := v11) (lv' := [(3, .int v11), (2, .int v10), (4, .int 0), (0, .ref (adM 0)), (1, .int x1)]) hx hb dX3_writes_65 hl (k := 2) rfl ev11 (by decide) rfl (fun ls hl => ?_)
          refine lv_goto (tgt := 4) hx hb dX3_writes_68 (by decide) ?_
          exact ih1 _ _ _ _ _ _ hW (lv_sub hl [0, 1, 3, 4] rfl) hf
        · have hf := o_f hf c7
          refine lv_iconst (v := 1) hx hb dX3_writes_20 (by decide) ?_
          refine lv_goto (tgt := 25) hx hb dX3_writes_21 (by decide) ?_
          refine lv_istore (lv' := [(4, .int 1), (3, .int v3), (2, .int v2), (0, .ref (adM 0)), (1, .int x1)]) hx hb dX3_writes_25 hl (by decide) rfl (fun ls hl => ?_)
          refine lv_aload_n hx hb dX3_writes_27 rfl (lv_at hl 3 rfl) ?_
          refine b_get hx hb hts in_X3 hown hW 0 0 3 10 rfl mW_0 rfl (by decide) ⟨rfl, rfl, rfl⟩ (hts _ q1469) mW_g10 dX3_writes_28 ?_
          refine lv_iload_n hx hb dX3_writes_31 rfl (lv_at hl 1 rfl) ?_
          obtain ⟨h12, hf⟩ := o_cs hf
          refine b_agrI hx hb hW 0 17 rfl mW_17 h12 dX3_writes_32 ?_
          refine lv_iconst (v := 4) hx hb dX3_writes_33 (by decide) ?_
          refine lv_iload hx hb dX3_writes_34 (lv_at hl 0 rfl) ?_
          refine lv_if_eq (tgt := 50) hx hb dX3_writes_36 (by decide) (fun hc => absurd hc (by decide)) (fun hc => ?_)
          refine lv_aload_n hx hb dX3_writes_39 rfl (lv_at hl 3 rfl) ?_
          refine b_get hx hb hts in_X3 hown hW 0 0 3 10 rfl mW_0 rfl (by decide) ⟨rfl, rfl, rfl⟩ (hts _ q1469) mW_g10 dX3_writes_40 ?_
          refine lv_iload_n hx hb dX3_writes_43 rfl (lv_at hl 1 rfl) ?_
          refine b_agrI hx hb hW 0 17 rfl mW_17 h12 dX3_writes_44 ?_
          refine lv_iconst (v := 0) hx hb dX3_writes_45 (by decide) ?_
          refine b_iald hx hb hW 0 (18 + ix v3) rfl (mW_r18 (inB_lt h12)) (by decide) dX3_writes_46 ?_
          refine lv_goto (tgt := 51) hx hb dX3_writes_47 (by decide) ?_
          obtain ⟨v13, ev13, hf⟩ := o_ls hf
          refine b_topi ev13 ?_
          obtain ⟨M14, eM14, hf⟩ := o_ls hf
          refine b_iast hx hb hW 0 (18 + ix v3) rfl (mW_r18 (inB_lt h12)) (mW_rs18 (inB_lt h12) eM14) rfl (by decide) dX3_writes_51 (fun H locs hW => ?_)
          have hW : bW D g A s H locs [mW g adM kM tM M14] := hW
          refine lv_iload_n hx hb dX3_writes_52 rfl (lv_at hl 2 rfl) ?_
          refine lv_iload hx hb dX3_writes_53 (lv_at hl 0 rfl) ?_
          refine lv_if_eq (tgt := 62) hx hb dX3_writes_55 (by decide) (fun hc => absurd hc (by decide)) (fun hc => ?_)
          refine lv_iconst (v := 1) hx hb dX3_writes_58 (by decide) ?_
          refine lv_goto (tgt := 63) hx hb dX3_writes_59 (by decide) ?_
          refine lv_iadd hx hb dX3_writes_63 ?_
          obtain ⟨v15, ev15, hf⟩ := o_ls hf
          refine b_topi ev15 ?_
          refine lv_istore_n (lv' := [(2, .int v15), (4, .int 1), (3, .int v3), (0, .ref (adM 0)), (1, .int x1)]) hx hb dX3_writes_64 rfl hl (by decide) rfl (fun ls hl => ?_)
          obtain ⟨v16, ev16, hf⟩ := o_ls hf
          refine lv_iinc (v := v16) (lv' := [(3, .int v16), (2, .int v15), (4, .int 1), (0, .ref (adM 0)), (1, .int x1)]) hx hb dX3_writes_65 hl (k := 2) rfl ev16 (by decide) rfl (fun ls hl => ?_)
          refine lv_goto (tgt := 4) hx hb dX3_writes_68 (by decide) ?_
          exact ih1 _ _ _ _ _ _ hW (lv_sub hl [0, 1, 3, 4] rfl) hf
  exact L1 _ _ _ _ _ _ _ hW (lv_sub hl [0, 1, 2, 3] rfl) hf
def f_X3_write (fu : Nat) (M : BC) (x1 : Int32) : Option (Int32 × BC) :=
 o_b1 (f_X3_isSet M x1) fun (r1 : Int32) =>
 (if r1 = 0 then
 o_b2 (f_X3_refuse M (-2)) fun (r3 : Int32) (M4 : BC) =>
 some (r3, M4)
 else
 o_b2 (f_X3_writes fu M x1) fun (r5 : Int32) (M6 : BC) =>
 some (r5, M6))
abbrev rm_X3_write : Room := { frames := 2, cells := 0, slots := 0, locals := 46 }
set_option maxHeartbeats 4000000 in
set_option maxRecDepth 100000 in
theorem m_X3_write (l : Launch) (D : va_G) (g : Nat → ClassId) (sz : Nat) (adM : Nat → Nat) (kM : Option Nat) (tM : Option Nat) (fu : Nat) (M : BC) (x1 : Int32) (rO : Int32) (MO : BC) (hf : f_X3_write fu M x1 = some (rO, MO)) : bMet (S := Unit) l yX3_write (ws_ yX3_write cX3_write 2 (some .int)) rm_X3_write D g sz [.ref (adM 0), .int x1] [mW g adM kM tM M] (fun _ => True) (fun _ => some (.int rO)) (fun _ => [mW g adM kM tM MO]) := by
  refine b_met (by decide) (Nat.le_of_ble_eq_true rfl) ?_
  intro p e s m args below meth c A Q ls hx hb hml hr hlk hown hname hts hE hl hW
  revert hW; generalize s.heap = H; intro hW
  have hl : lv_has ls 2 [(0, .ref (adM 0)), (1, .int x1)] := hl
  rw [f_X3_write] at hf
  refine lv_aload_n hx hb dX3_write_0 rfl (lv_at hl 0 rfl) ?_
  refine lv_iload_n hx hb dX3_write_1 rfl (lv_at hl 1 rfl) ?_
  obtain ⟨r1, hc1, hf⟩ := o_b1s hf
  have hp1 : List.Perm [mW g adM kM tM M] ([mW g adM kM tM M] ++ []) := b_perm [0] [] 1 rfl rfl rfl rfl
  refine b_call0 ⟨rfl, rfl⟩ (va_runV (As := [.int x1]) (rest := []) ⟨hx, hb, hml, hown, hts⟩ (m_X3_isSet l D g H.size adM kM tM M x1 r1 hc1) (cwV 1 hts (lw_V q1664 q1666 qs42 q79 q1667) rfl rfl rfl (by decide +kernel) ⟨Nat.le_of_ble_eq_true rfl, Nat.le_of_ble_eq_true rfl⟩) (b_preV (pp := 0) (q := 0) hW hp1 rfl mW_0 rfl) rfl rfl hl.1 rfl (lv_room (Nat.le_of_ble_eq_true rfl)) dX3_write_2 ⟨Nat.le_of_ble_eq_true rfl, Nat.le_of_ble_eq_true rfl⟩) hW hp1 (fun _ _ H locs hW => ?_)
  have hW : bW D g A s H locs [mW g adM kM tM M] := hW
  refine lv_if_eq (tgt := 16) hx hb dX3_write_5 (by decide) (fun c2 => ?_) (fun c2 => ?_)
  · have hf := o_t hf c2
    refine lv_aload_n hx hb dX3_write_16 rfl (lv_at hl 0 rfl) ?_
    refine lv_bipush (v := (-2)) hx hb dX3_write_17 (by decide) ?_
    obtain ⟨r3, M4, hc4, hf⟩ := o_b2s hf
    have hp4 : List.Perm [mW g adM kM tM M] ([mW g adM kM tM M] ++ []) := b_perm [0] [] 1 rfl rfl rfl rfl
    refine b_call0 ⟨rfl, rfl⟩ (va_runV (As := [.int (-2)]) (rest := []) ⟨hx, hb, hml, hown, hts⟩ (m_X3_refuse l D g H.size adM kM tM M (-2) r3 M4 hc4) (cwV 1 hts (lw_V q1572 q1574 qs33 q79 q1575) rfl rfl rfl (by decide +kernel) ⟨Nat.le_of_ble_eq_true rfl, Nat.le_of_ble_eq_true rfl⟩) (b_preV (pp := 0) (q := 0) hW hp4 rfl mW_0 rfl) rfl rfl hl.1 rfl (lv_room (Nat.le_of_ble_eq_true rfl)) dX3_write_19 ⟨Nat.le_of_ble_eq_true rfl, Nat.le_of_ble_eq_true rfl⟩) hW hp4 (fun _ _ H locs hW => ?_)
    have hW : bW D g A s H locs [mW g adM kM tM M4] := hW
    cases hf
    exact b_iret hx hb hr hlk hE hW () rfl trivial rfl dX3_write_22
  · have hf := o_f hf c2
    refine lv_aload_n hx hb dX3_write_8 rfl (lv_at hl 0 rfl) ?_
    refine lv_iload_n hx hb dX3_write_9 rfl (lv_at hl 1 rfl) ?_
    obtain ⟨r5, M6, hc6, hf⟩ := o_b2s hf
    have hp6 : List.Perm [mW g adM kM tM M] ([mW g adM kM tM M] ++ []) := b_perm [0] [] 1 rfl rfl rfl rfl
    refine b_call0 ⟨rfl, rfl⟩ (va_runV (As := [.int x1]) (rest := []) ⟨hx, hb, hml, hown, hts⟩ (m_X3_writes l D g H.size adM kM tM fu M x1 r5 M6 hc6) (cwV 1 hts (lw_V q1668 q1670 qs43 q79 q1671) rfl rfl rfl (by decide +kernel) ⟨Nat.le_of_ble_eq_true rfl, Nat.le_of_ble_eq_true rfl⟩) (b_preV (pp := 0) (q := 0) hW hp6 rfl mW_0 rfl) rfl rfl hl.1 rfl (lv_room (Nat.le_of_ble_eq_true rfl)) dX3_write_10 ⟨Nat.le_of_ble_eq_true rfl, Nat.le_of_ble_eq_true rfl⟩) hW hp6 (fun _ _ H locs hW => ?_)
    have hW : bW D g A s H locs [mW g adM kM tM M6] := hW
    refine lv_goto (tgt := 22) hx hb dX3_write_13 (by decide) ?_
    cases hf
    exact b_iret hx hb hr hlk hE hW () rfl trivial rfl dX3_write_22
def f_X3_getsLetter (M : BC) (x1 : Int32) (x2 : Int32) : Option BC :=
 o_ck (inB x1 6) ((if (99 : Int32) ≤ (M.1 (18 + ix x1) (ix 5)) then
 some M
 else
 o_lt ((M.1 (18 + ix x1) (ix 5)) + 1) fun (v3 : Int32) =>
 o_lt (bI M (18 + ix x1) (upd (M.1 (18 + ix x1)) (ix 5) v3)) fun (M4 : BC) =>
 o_lt ((M4.1 (18 + ix x1) (ix 6)) + x2) fun (v5 : Int32) =>
 o_lt (bI M4 (18 + ix x1) (upd (M4.1 (18 + ix x1)) (ix 6) v5)) fun (M6 : BC) =>
 some M6))
abbrev rm_X3_getsLetter : Room := { frames := 0, cells := 0, slots := 0, locals := 0 }
set_option maxHeartbeats 4000000 in
set_option maxRecDepth 100000 in
theorem m_X3_getsLetter (l : Launch) (D : va_G) (g : Nat → ClassId) (sz : Nat) (adM : Nat → Nat) (kM : Option Nat) (tM : Option Nat) (M : BC) (x1 : Int32) (x2 : Int32) (MO : BC) (hf : f_X3_getsLetter M x1 x2 = some MO) : bMet (S := Unit) l yX3_getsLetter (ws_ yX3_getsLetter cX3_getsLetter 3 none) rm_X3_getsLetter D g sz [.ref (adM 0), .int x1, .int x2] [mW g adM kM tM M] (fun _ => True) (fun _ => none) (fun _ => [mW g adM kM tM MO]) := by
  refine b_met (by decide) (Nat.le_of_ble_eq_true rfl) ?_
  intro p e s m args below meth c A Q ls hx hb hml hr hlk hown hname hts hE hl hW
  revert hW; generalize s.heap = H; intro hW
  have hl : lv_has ls 3 [(0, .ref (adM 0)), (1, .int x1), (2, .int x2)] := hl
  rw [f_X3_getsLetter] at hf
  refine lv_aload_n hx hb dX3_getsLetter_0 rfl (lv_at hl 0 rfl) ?_
  refine b_get hx hb hts in_X3 hown hW 0 0 3 10 rfl mW_0 rfl (by decide) ⟨rfl, rfl, rfl⟩ (hts _ q1469) mW_g10 dX3_getsLetter_1 ?_
  refine lv_iload_n hx hb dX3_getsLetter_4 rfl (lv_at hl 1 rfl) ?_
  obtain ⟨h1, hf⟩ := o_cs hf
  refine b_agrI hx hb hW 0 17 rfl mW_17 h1 dX3_getsLetter_5 ?_
  refine lv_iconst (v := 5) hx hb dX3_getsLetter_6 (by decide) ?_
  refine b_iald hx hb hW 0 (18 + ix x1) rfl (mW_r18 (inB_lt h1)) (by decide) dX3_getsLetter_7 ?_
  refine lv_bipush (v := 99) hx hb dX3_getsLetter_8 (by decide) ?_
  refine lv_icmp_ge (tgt := 38) hx hb dX3_getsLetter_10 (by decide) (fun c2 => ?_) (fun c2 => ?_)
  · have hf := o_t hf c2
    cases hf
    exact b_vret hx hb hr hlk hE hW () rfl trivial rfl dX3_getsLetter_38
  · have hf := o_f hf c2
    refine lv_aload_n hx hb dX3_getsLetter_13 rfl (lv_at hl 0 rfl) ?_
    refine b_get hx hb hts in_X3 hown hW 0 0 3 10 rfl mW_0 rfl (by decide) ⟨rfl, rfl, rfl⟩ (hts _ q1469) mW_g10 dX3_getsLetter_14 ?_
    refine lv_iload_n hx hb dX3_getsLetter_17 rfl (lv_at hl 1 rfl) ?_
    refine b_agrI hx hb hW 0 17 rfl mW_17 h1 dX3_getsLetter_18 ?_
    refine lv_iconst (v := 5) hx hb dX3_getsLetter_19 (by decide) ?_
    refine lv_dup2_11 hx hb dX3_getsLetter_20 rfl rfl ?_
    refine b_iald hx hb hW 0 (18 + ix x1) rfl (mW_r18 (inB_lt h1)) (by decide) dX3_getsLetter_21 ?_
    refine lv_iconst (v := 1) hx hb dX3_getsLetter_22 (by decide) ?_
    refine lv_iadd hx hb dX3_getsLetter_23 ?_
    obtain ⟨v3, ev3, hf⟩ := o_ls hf
    refine b_topi ev3 ?_
    obtain ⟨M4, eM4, hf⟩ := o_ls hf
    refine b_iast hx hb hW 0 (18 + ix x1) rfl (mW_r18 (inB_lt h1)) (mW_rs18 (inB_lt h1) eM4) rfl (by decide) dX3_getsLetter_24 (fun H locs hW => ?_)
    have hW : bW D g A s H locs [mW g adM kM tM M4] := hW
    refine lv_aload_n hx hb dX3_getsLetter_25 rfl (lv_at hl 0 rfl) ?_
    refine b_get hx hb hts in_X3 hown hW 0 0 3 10 rfl mW_0 rfl (by decide) ⟨rfl, rfl, rfl⟩ (hts _ q1469) mW_g10 dX3_getsLetter_26 ?_
    refine lv_iload_n hx hb dX3_getsLetter_29 rfl (lv_at hl 1 rfl) ?_
    refine b_agrI hx hb hW 0 17 rfl mW_17 h1 dX3_getsLetter_30 ?_
    refine lv_bipush (v := 6) hx hb dX3_getsLetter_31 (by decide) ?_
    refine lv_dup2_11 hx hb dX3_getsLetter_33 rfl rfl ?_
    refine b_iald hx hb hW 0 (18 + ix x1) rfl (mW_r18 (inB_lt h1)) (by decide) dX3_getsLetter_34 ?_
    refine lv_iload_n hx hb dX3_getsLetter_35 rfl (lv_at hl 2 rfl) ?_
    refine lv_iadd hx hb dX3_getsLetter_36 ?_
    obtain ⟨v5, ev5, hf⟩ := o_ls hf
    refine b_topi ev5 ?_
    obtain ⟨M6, eM6, hf⟩ := o_ls hf
    refine b_iast hx hb hW 0 (18 + ix x1) rfl (mW_r18 (inB_lt h1)) (mW_rs18 (inB_lt h1) eM6) rfl (by decide) dX3_getsLetter_37 (fun H locs hW => ?_)
    have hW : bW D g A s H locs [mW g adM kM tM M6] := hW
    cases hf
    exact b_vret hx hb hr hlk hE hW () rfl trivial rfl dX3_getsLetter_38
def f_X3_letter (M : BC) (x1 : Int32) (x2 : Int32) : Option (Int32 × BC) :=
 o_b1 (f_X3_isInn M x1) fun (r1 : Int32) =>
 (if r1 = 0 then
 o_b2 (f_X3_refuse M (-2)) fun (r3 : Int32) (M4 : BC) =>
 some (r3, M4)
 else
 o_b1 (f_X3_in x2.toInt64 0 100) fun (r5 : Int32) =>
 (if r5 = 0 then
 o_b2 (f_X3_refuse M (-2)) fun (r12 : Int32) (M13 : BC) =>
 some (r12, M13)
 else
 o_ck (inB x1 6) ((if (M.1 (18 + ix x1) (ix 5)) = 99 then
 o_b2 (f_X3_refuse M (-6)) fun (r10 : Int32) (M11 : BC) =>
 some (r10, M11)
 else
 o_b1 (f_X3_getsLetter M x1 x2) fun (M9 : BC) =>
 some (M9.1 (18 + ix x1) (ix 5), M9)))))
abbrev rm_X3_letter : Room := { frames := 2, cells := 0, slots := 0, locals := 46 }
set_option maxHeartbeats 4000000 in
set_option maxRecDepth 100000 in
theorem m_X3_letter (l : Launch) (D : va_G) (g : Nat → ClassId) (sz : Nat) (adM : Nat → Nat) (kM : Option Nat) (tM : Option Nat) (M : BC) (x1 : Int32) (x2 : Int32) (rO : Int32) (MO : BC) (hf : f_X3_letter M x1 x2 = some (rO, MO)) : bMet (S := Unit) l yX3_letter (ws_ yX3_letter cX3_letter 3 (some .int)) rm_X3_letter D g sz [.ref (adM 0), .int x1, .int x2] [mW g adM kM tM M] (fun _ => True) (fun _ => some (.int rO)) (fun _ => [mW g adM kM tM MO]) := by
  refine b_met (by decide) (Nat.le_of_ble_eq_true rfl) ?_
  intro p e s m args below meth c A Q ls hx hb hml hr hlk hown hname hts hE hl hW
  revert hW; generalize s.heap = H; intro hW
  have hl : lv_has ls 3 [(0, .ref (adM 0)), (1, .int x1), (2, .int x2)] := hl
  rw [f_X3_letter] at hf
  refine lv_aload_n hx hb dX3_letter_0 rfl (lv_at hl 0 rfl) ?_
  refine lv_iload_n hx hb dX3_letter_1 rfl (lv_at hl 1 rfl) ?_
  obtain ⟨r1, hc1, hf⟩ := o_b1s hf
  have hp1 : List.Perm [mW g adM kM tM M] ([mW g adM kM tM M] ++ []) := b_perm [0] [] 1 rfl rfl rfl rfl
  refine b_call0 ⟨rfl, rfl⟩ (va_runV (As := [.int x1]) (rest := []) ⟨hx, hb, hml, hown, hts⟩ (m_X3_isInn l D g H.size adM kM tM M x1 r1 hc1) (cwV 1 hts (lw_V q1651 q1653 qs41 q79 q1654) rfl rfl rfl (by decide +kernel) ⟨Nat.le_of_ble_eq_true rfl, Nat.le_of_ble_eq_true rfl⟩) (b_preV (pp := 0) (q := 0) hW hp1 rfl mW_0 rfl) rfl rfl hl.1 rfl (lv_room (Nat.le_of_ble_eq_true rfl)) dX3_letter_2 ⟨Nat.le_of_ble_eq_true rfl, Nat.le_of_ble_eq_true rfl⟩) hW hp1 (fun _ _ H locs hW => ?_)
  have hW : bW D g A s H locs [mW g adM kM tM M] := hW
  refine lv_if_eq (tgt := 20) hx hb dX3_letter_5 (by decide) (fun c2 => ?_) (fun c2 => ?_)
  · have hf := o_t hf c2
    refine lv_aload_n hx hb dX3_letter_20 rfl (lv_at hl 0 rfl) ?_
    refine lv_bipush (v := (-2)) hx hb dX3_letter_21 (by decide) ?_
    obtain ⟨r3, M4, hc4, hf⟩ := o_b2s hf
    have hp4 : List.Perm [mW g adM kM tM M] ([mW g adM kM tM M] ++ []) := b_perm [0] [] 1 rfl rfl rfl rfl
    refine b_call0 ⟨rfl, rfl⟩ (va_runV (As := [.int (-2)]) (rest := []) ⟨hx, hb, hml, hown, hts⟩ (m_X3_refuse l D g H.size adM kM tM M (-2) r3 M4 hc4) (cwV 1 hts (lw_V q1572 q1574 qs33 q79 q1575) rfl rfl rfl (by decide +kernel) ⟨Nat.le_of_ble_eq_true rfl, Nat.le_of_ble_eq_true rfl⟩) (b_preV (pp := 0) (q := 0) hW hp4 rfl mW_0 rfl) rfl rfl hl.1 rfl (lv_room (Nat.le_of_ble_eq_true rfl)) dX3_letter_23 ⟨Nat.le_of_ble_eq_true rfl, Nat.le_of_ble_eq_true rfl⟩) hW hp4 (fun _ _ H locs hW => ?_)
    have hW : bW D g A s H locs [mW g adM kM tM M4] := hW
    cases hf
    exact b_iret hx hb hr hlk hE hW () rfl trivial rfl dX3_letter_26
  · have hf := o_f hf c2
    refine lv_iload_n hx hb dX3_letter_8 rfl (lv_at hl 2 rfl) ?_
    refine lv_i2l hx hb dX3_letter_9 rfl ?_
    refine lv_lconst (v := 0) hx hb dX3_letter_10 (by decide) ?_
    refine lv_ldc2 (v := 100) hx hb hown (hts _ q1635) dX3_letter_11 ?_
    obtain ⟨r5, hc5, hf⟩ := o_b1s hf
    have hp5 : List.Perm [mW g adM kM tM M] ([] ++ [mW g adM kM tM M]) := b_perm [] [0] 1 rfl rfl rfl rfl
    refine b_call0 ⟨rfl, rfl⟩ (va_runS (As := [.long x2.toInt64, .long 0, .long 100]) (rest := []) ⟨hx, hb, hml, hown, hts⟩ (m_X3_in l D g H.size x2.toInt64 0 100 r5 hc5) (va_cwS 3 hts (lw_S q1567 q1568 q79 q1569) rfl rfl rfl (by decide +kernel) ⟨Nat.le_of_ble_eq_true rfl, Nat.le_of_ble_eq_true rfl⟩) (b_preS hW hp5) rfl rfl hl.1 rfl (lv_room (Nat.le_of_ble_eq_true rfl)) dX3_letter_14 ⟨Nat.le_of_ble_eq_true rfl, Nat.le_of_ble_eq_true rfl⟩) hW hp5 (fun _ _ H locs hW => ?_)
    have hW : bW D g A s H locs [mW g adM kM tM M] := hW
    refine lv_if_ne (tgt := 27) hx hb dX3_letter_17 (by decide) (fun c6 => ?_) (fun c6 => ?_)
    · have hf := o_f hf c6
      refine lv_aload_n hx hb dX3_letter_27 rfl (lv_at hl 0 rfl) ?_
      refine b_get hx hb hts in_X3 hown hW 0 0 3 10 rfl mW_0 rfl (by decide) ⟨rfl, rfl, rfl⟩ (hts _ q1469) mW_g10 dX3_letter_28 ?_
      refine lv_iload_n hx hb dX3_letter_31 rfl (lv_at hl 1 rfl) ?_
      obtain ⟨h7, hf⟩ := o_cs hf
      refine b_agrI hx hb hW 0 17 rfl mW_17 h7 dX3_letter_32 ?_
      refine lv_iconst (v := 5) hx hb dX3_letter_33 (by decide) ?_
      refine b_iald hx hb hW 0 (18 + ix x1) rfl (mW_r18 (inB_lt h7)) (by decide) dX3_letter_34 ?_
      refine lv_bipush (v := 99) hx hb dX3_letter_35 (by decide) ?_
      refine lv_icmp_ne (tgt := 47) hx hb dX3_letter_37 (by decide) (fun c8 => ?_) (fun c8 => ?_)
      · have hf := o_f hf c8
        refine lv_aload_n hx hb dX3_letter_47 rfl (lv_at hl 0 rfl) ?_
        refine lv_iload_n hx hb dX3_letter_48 rfl (lv_at hl 1 rfl) ?_
        refine lv_iload_n hx hb dX3_letter_49 rfl (lv_at hl 2 rfl) ?_
        obtain ⟨M9, hc9, hf⟩ := o_b1s hf
        have hp9 : List.Perm [mW g adM kM tM M] ([mW g adM kM tM M] ++ []) := b_perm [0] [] 1 rfl rfl rfl rfl
        refine b_call0 ⟨rfl, rfl⟩ (va_runV (As := [.int x1, .int x2]) (rest := []) ⟨hx, hb, hml, hown, hts⟩ (m_X3_getsLetter l D g H.size adM kM tM M x1 x2 M9 hc9) (cwV 2 hts (lw_V q1676 q1678 qs44 q79 q1679) rfl rfl rfl (by decide +kernel) ⟨Nat.le_of_ble_eq_true rfl, Nat.le_of_ble_eq_true rfl⟩) (b_preV (pp := 0) (q := 0) hW hp9 rfl mW_0 rfl) rfl rfl hl.1 rfl (lv_room (Nat.le_of_ble_eq_true rfl)) dX3_letter_50 ⟨Nat.le_of_ble_eq_true rfl, Nat.le_of_ble_eq_true rfl⟩) hW hp9 (fun _ _ H locs hW => ?_)
        have hW : bW D g A s H locs [mW g adM kM tM M9] := hW
        refine lv_aload_n hx hb dX3_letter_53 rfl (lv_at hl 0 rfl) ?_
        refine b_get hx hb hts in_X3 hown hW 0 0 3 10 rfl mW_0 rfl (by decide) ⟨rfl, rfl, rfl⟩ (hts _ q1469) mW_g10 dX3_letter_54 ?_
        refine lv_iload_n hx hb dX3_letter_57 rfl (lv_at hl 1 rfl) ?_
        refine b_agrI hx hb hW 0 17 rfl mW_17 h7 dX3_letter_58 ?_
        refine lv_iconst (v := 5) hx hb dX3_letter_59 (by decide) ?_
        refine b_iald hx hb hW 0 (18 + ix x1) rfl (mW_r18 (inB_lt h7)) (by decide) dX3_letter_60 ?_
        cases hf
        exact b_iret hx hb hr hlk hE hW () rfl trivial rfl dX3_letter_61
      · have hf := o_t hf c8
        refine lv_aload_n hx hb dX3_letter_40 rfl (lv_at hl 0 rfl) ?_
        refine lv_bipush (v := (-6)) hx hb dX3_letter_41 (by decide) ?_
        obtain ⟨r10, M11, hc11, hf⟩ := o_b2s hf
        have hp11 : List.Perm [mW g adM kM tM M] ([mW g adM kM tM M] ++ []) := b_perm [0] [] 1 rfl rfl rfl rfl
        refine b_call0 ⟨rfl, rfl⟩ (va_runV (As := [.int (-6)]) (rest := []) ⟨hx, hb, hml, hown, hts⟩ (m_X3_refuse l D g H.size adM kM tM M (-6) r10 M11 hc11) (cwV 1 hts (lw_V q1572 q1574 qs33 q79 q1575) rfl rfl rfl (by decide +kernel) ⟨Nat.le_of_ble_eq_true rfl, Nat.le_of_ble_eq_true rfl⟩) (b_preV (pp := 0) (q := 0) hW hp11 rfl mW_0 rfl) rfl rfl hl.1 rfl (lv_room (Nat.le_of_ble_eq_true rfl)) dX3_letter_43 ⟨Nat.le_of_ble_eq_true rfl, Nat.le_of_ble_eq_true rfl⟩) hW hp11 (fun _ _ H locs hW => ?_)
        have hW : bW D g A s H locs [mW g adM kM tM M11] := hW
        cases hf
        exact b_iret hx hb hr hlk hE hW () rfl trivial rfl dX3_letter_46
    · have hf := o_t hf c6
      refine lv_aload_n hx hb dX3_letter_20 rfl (lv_at hl 0 rfl) ?_
      refine lv_bipush (v := (-2)) hx hb dX3_letter_21 (by decide) ?_
      obtain ⟨r12, M13, hc13, hf⟩ := o_b2s hf
      have hp13 : List.Perm [mW g adM kM tM M] ([mW g adM kM tM M] ++ []) := b_perm [0] [] 1 rfl rfl rfl rfl
      refine b_call0 ⟨rfl, rfl⟩ (va_runV (As := [.int (-2)]) (rest := []) ⟨hx, hb, hml, hown, hts⟩ (m_X3_refuse l D g H.size adM kM tM M (-2) r12 M13 hc13) (cwV 1 hts (lw_V q1572 q1574 qs33 q79 q1575) rfl rfl rfl (by decide +kernel) ⟨Nat.le_of_ble_eq_true rfl, Nat.le_of_ble_eq_true rfl⟩) (b_preV (pp := 0) (q := 0) hW hp13 rfl mW_0 rfl) rfl rfl hl.1 rfl (lv_room (Nat.le_of_ble_eq_true rfl)) dX3_letter_23 ⟨Nat.le_of_ble_eq_true rfl, Nat.le_of_ble_eq_true rfl⟩) hW hp13 (fun _ _ H locs hW => ?_)
      have hW : bW D g A s H locs [mW g adM kM tM M13] := hW
      cases hf
      exact b_iret hx hb hr hlk hE hW () rfl trivial rfl dX3_letter_26
def f_X3_age (M : BC) (x1 : Int32) : Option (Int32 × BC) :=
 o_b1 (f_X3_in x1.toInt64 0 99) fun (r1 : Int32) =>
 (if r1 = 0 then
 o_b2 (f_X3_refuse M (-2)) fun (r5 : Int32) (M6 : BC) =>
 some (r5, M6)
 else
 o_lt (M.1 0 3) fun (v3 : Int32) =>
 o_lt (bI M 0 (upd (M.1 0) 3 x1)) fun (M4 : BC) =>
 some (v3, M4))
abbrev rm_X3_age : Room := { frames := 1, cells := 0, slots := 0, locals := 25 }
set_option maxHeartbeats 4000000 in
set_option maxRecDepth 100000 in
theorem m_X3_age (l : Launch) (D : va_G) (g : Nat → ClassId) (sz : Nat) (adM : Nat → Nat) (kM : Option Nat) (tM : Option Nat) (M : BC) (x1 : Int32) (rO : Int32) (MO : BC) (hf : f_X3_age M x1 = some (rO, MO)) : bMet (S := Unit) l yX3_age (ws_ yX3_age cX3_age 3 (some .int)) rm_X3_age D g sz [.ref (adM 0), .int x1] [mW g adM kM tM M] (fun _ => True) (fun _ => some (.int rO)) (fun _ => [mW g adM kM tM MO]) := by
  refine b_met (by decide) (Nat.le_of_ble_eq_true rfl) ?_
  intro p e s m args below meth c A Q ls hx hb hml hr hlk hown hname hts hE hl hW
  revert hW; generalize s.heap = H; intro hW
  have hl : lv_has ls 3 [(0, .ref (adM 0)), (1, .int x1)] := hl
  rw [f_X3_age] at hf
  refine lv_iload_n hx hb dX3_age_0 rfl (lv_at hl 1 rfl) ?_
  refine lv_i2l hx hb dX3_age_1 rfl ?_
  refine lv_lconst (v := 0) hx hb dX3_age_2 (by decide) ?_
  refine lv_ldc2 (v := 99) hx hb hown (hts _ q1637) dX3_age_3 ?_
  obtain ⟨r1, hc1, hf⟩ := o_b1s hf
  have hp1 : List.Perm [mW g adM kM tM M] ([] ++ [mW g adM kM tM M]) := b_perm [] [0] 1 rfl rfl rfl rfl
  refine b_call0 ⟨rfl, rfl⟩ (va_runS (As := [.long x1.toInt64, .long 0, .long 99]) (rest := []) ⟨hx, hb, hml, hown, hts⟩ (m_X3_in l D g H.size x1.toInt64 0 99 r1 hc1) (va_cwS 3 hts (lw_S q1567 q1568 q79 q1569) rfl rfl rfl (by decide +kernel) ⟨Nat.le_of_ble_eq_true rfl, Nat.le_of_ble_eq_true rfl⟩) (b_preS hW hp1) rfl rfl hl.1 rfl (lv_room (Nat.le_of_ble_eq_true rfl)) dX3_age_6 ⟨Nat.le_of_ble_eq_true rfl, Nat.le_of_ble_eq_true rfl⟩) hW hp1 (fun _ _ H locs hW => ?_)
  have hW : bW D g A s H locs [mW g adM kM tM M] := hW
  refine lv_if_ne (tgt := 19) hx hb dX3_age_9 (by decide) (fun c2 => ?_) (fun c2 => ?_)
  · have hf := o_f hf c2
    refine lv_aload_n hx hb dX3_age_19 rfl (lv_at hl 0 rfl) ?_
    refine b_get hx hb hts in_X3 hown hW 0 0 3 13 rfl mW_0 rfl (by decide) ⟨rfl, rfl, rfl⟩ (hts _ q1472) mW_g13 dX3_age_20 ?_
    obtain ⟨v3, ev3, hf⟩ := o_ls hf
    refine b_topi ev3 ?_
    refine lv_istore_n (lv' := [(2, .int v3), (0, .ref (adM 0)), (1, .int x1)]) hx hb dX3_age_23 rfl hl (by decide) rfl (fun ls hl => ?_)
    refine lv_aload_n hx hb dX3_age_24 rfl (lv_at hl 1 rfl) ?_
    refine lv_iload_n hx hb dX3_age_25 rfl (lv_at hl 2 rfl) ?_
    obtain ⟨M4, eM4, hf⟩ := o_ls hf
    refine b_put hx hb hts in_X3 tyX3 tyX3_ok nmX3 hown hW 0 0 3 13 rfl mW_0 (mW_p13 eM4) rfl rfl (by decide) ⟨rfl, rfl, rfl⟩ (hts _ q1472) rfl (ty := .int) rfl rfl rfl (by rw [mW_l]; decide) dX3_age_26 (fun H locs hW => ?_)
    have hW : bW D g A s H locs [mW g adM kM tM M4] := hW
    refine lv_iload_n hx hb dX3_age_29 rfl (lv_at hl 0 rfl) ?_
    cases hf
    exact b_iret hx hb hr hlk hE hW () rfl trivial rfl dX3_age_30
  · have hf := o_t hf c2
    refine lv_aload_n hx hb dX3_age_12 rfl (lv_at hl 0 rfl) ?_
    refine lv_bipush (v := (-2)) hx hb dX3_age_13 (by decide) ?_
    obtain ⟨r5, M6, hc6, hf⟩ := o_b2s hf
    have hp6 : List.Perm [mW g adM kM tM M] ([mW g adM kM tM M] ++ []) := b_perm [0] [] 1 rfl rfl rfl rfl
    refine b_call0 ⟨rfl, rfl⟩ (va_runV (As := [.int (-2)]) (rest := []) ⟨hx, hb, hml, hown, hts⟩ (m_X3_refuse l D g H.size adM kM tM M (-2) r5 M6 hc6) (cwV 1 hts (lw_V q1572 q1574 qs33 q79 q1575) rfl rfl rfl (by decide +kernel) ⟨Nat.le_of_ble_eq_true rfl, Nat.le_of_ble_eq_true rfl⟩) (b_preV (pp := 0) (q := 0) hW hp6 rfl mW_0 rfl) rfl rfl hl.1 rfl (lv_room (Nat.le_of_ble_eq_true rfl)) dX3_age_15 ⟨Nat.le_of_ble_eq_true rfl, Nat.le_of_ble_eq_true rfl⟩) hW hp6 (fun _ _ H locs hW => ?_)
    have hW : bW D g A s H locs [mW g adM kM tM M6] := hW
    cases hf
    exact b_iret hx hb hr hlk hE hW () rfl trivial rfl dX3_age_18
def f_X3_heads (M : BC) (x1 : Int32) (x2 : Int32) : Option (Int32 × BC) :=
 o_b1 (f_X3_isGoer M x1) fun (r1 : Int32) =>
 (if r1 = 0 then
 o_b2 (f_X3_refuse M (-2)) fun (r3 : Int32) (M4 : BC) =>
 some (r3, M4)
 else
 o_b1 (f_X3_in x2.toInt64 1 30) fun (r5 : Int32) =>
 (if r5 = 0 then
 o_b2 (f_X3_refuse M (-2)) fun (r10 : Int32) (M11 : BC) =>
 some (r10, M11)
 else
 o_ck (inB x1 6) (o_lt (M.1 (25 + ix x1) (ix 1)) fun (v8 : Int32) =>
 o_lt (bI M (25 + ix x1) (upd (M.1 (25 + ix x1)) (ix 1) x2)) fun (M9 : BC) =>
 some (v8, M9))))
abbrev rm_X3_heads : Room := { frames := 2, cells := 0, slots := 0, locals := 46 }
set_option maxHeartbeats 4000000 in
set_option maxRecDepth 100000 in
theorem m_X3_heads (l : Launch) (D : va_G) (g : Nat → ClassId) (sz : Nat) (adM : Nat → Nat) (kM : Option Nat) (tM : Option Nat) (M : BC) (x1 : Int32) (x2 : Int32) (rO : Int32) (MO : BC) (hf : f_X3_heads M x1 x2 = some (rO, MO)) : bMet (S := Unit) l yX3_heads (ws_ yX3_heads cX3_heads 4 (some .int)) rm_X3_heads D g sz [.ref (adM 0), .int x1, .int x2] [mW g adM kM tM M] (fun _ => True) (fun _ => some (.int rO)) (fun _ => [mW g adM kM tM MO]) := by
  refine b_met (by decide) (Nat.le_of_ble_eq_true rfl) ?_
  intro p e s m args below meth c A Q ls hx hb hml hr hlk hown hname hts hE hl hW
  revert hW; generalize s.heap = H; intro hW
  have hl : lv_has ls 4 [(0, .ref (adM 0)), (1, .int x1), (2, .int x2)] := hl
  rw [f_X3_heads] at hf
  refine lv_aload_n hx hb dX3_heads_0 rfl (lv_at hl 0 rfl) ?_
  refine lv_iload_n hx hb dX3_heads_1 rfl (lv_at hl 1 rfl) ?_
  obtain ⟨r1, hc1, hf⟩ := o_b1s hf
  have hp1 : List.Perm [mW g adM kM tM M] ([mW g adM kM tM M] ++ []) := b_perm [0] [] 1 rfl rfl rfl rfl
  refine b_call0 ⟨rfl, rfl⟩ (va_runV (As := [.int x1]) (rest := []) ⟨hx, hb, hml, hown, hts⟩ (m_X3_isGoer l D g H.size adM kM tM M x1 r1 hc1) (cwV 1 hts (lw_V q1603 q1605 qs35 q79 q1606) rfl rfl rfl (by decide +kernel) ⟨Nat.le_of_ble_eq_true rfl, Nat.le_of_ble_eq_true rfl⟩) (b_preV (pp := 0) (q := 0) hW hp1 rfl mW_0 rfl) rfl rfl hl.1 rfl (lv_room (Nat.le_of_ble_eq_true rfl)) dX3_heads_2 ⟨Nat.le_of_ble_eq_true rfl, Nat.le_of_ble_eq_true rfl⟩) hW hp1 (fun _ _ H locs hW => ?_)
  have hW : bW D g A s H locs [mW g adM kM tM M] := hW
  refine lv_if_eq (tgt := 20) hx hb dX3_heads_5 (by decide) (fun c2 => ?_) (fun c2 => ?_)
  · have hf := o_t hf c2
    refine lv_aload_n hx hb dX3_heads_20 rfl (lv_at hl 0 rfl) ?_
    refine lv_bipush (v := (-2)) hx hb dX3_heads_21 (by decide) ?_
    obtain ⟨r3, M4, hc4, hf⟩ := o_b2s hf
    have hp4 : List.Perm [mW g adM kM tM M] ([mW g adM kM tM M] ++ []) := b_perm [0] [] 1 rfl rfl rfl rfl
    refine b_call0 ⟨rfl, rfl⟩ (va_runV (As := [.int (-2)]) (rest := []) ⟨hx, hb, hml, hown, hts⟩ (m_X3_refuse l D g H.size adM kM tM M (-2) r3 M4 hc4) (cwV 1 hts (lw_V q1572 q1574 qs33 q79 q1575) rfl rfl rfl (by decide +kernel) ⟨Nat.le_of_ble_eq_true rfl, Nat.le_of_ble_eq_true rfl⟩) (b_preV (pp := 0) (q := 0) hW hp4 rfl mW_0 rfl) rfl rfl hl.1 rfl (lv_room (Nat.le_of_ble_eq_true rfl)) dX3_heads_23 ⟨Nat.le_of_ble_eq_true rfl, Nat.le_of_ble_eq_true rfl⟩) hW hp4 (fun _ _ H locs hW => ?_)
    have hW : bW D g A s H locs [mW g adM kM tM M4] := hW
    cases hf
    exact b_iret hx hb hr hlk hE hW () rfl trivial rfl dX3_heads_26
  · have hf := o_f hf c2
    refine lv_iload_n hx hb dX3_heads_8 rfl (lv_at hl 2 rfl) ?_
    refine lv_i2l hx hb dX3_heads_9 rfl ?_
    refine lv_lconst (v := 1) hx hb dX3_heads_10 (by decide) ?_
    refine lv_ldc2 (v := 30) hx hb hown (hts _ q1646) dX3_heads_11 ?_
    obtain ⟨r5, hc5, hf⟩ := o_b1s hf
    have hp5 : List.Perm [mW g adM kM tM M] ([] ++ [mW g adM kM tM M]) := b_perm [] [0] 1 rfl rfl rfl rfl
    refine b_call0 ⟨rfl, rfl⟩ (va_runS (As := [.long x2.toInt64, .long 1, .long 30]) (rest := []) ⟨hx, hb, hml, hown, hts⟩ (m_X3_in l D g H.size x2.toInt64 1 30 r5 hc5) (va_cwS 3 hts (lw_S q1567 q1568 q79 q1569) rfl rfl rfl (by decide +kernel) ⟨Nat.le_of_ble_eq_true rfl, Nat.le_of_ble_eq_true rfl⟩) (b_preS hW hp5) rfl rfl hl.1 rfl (lv_room (Nat.le_of_ble_eq_true rfl)) dX3_heads_14 ⟨Nat.le_of_ble_eq_true rfl, Nat.le_of_ble_eq_true rfl⟩) hW hp5 (fun _ _ H locs hW => ?_)
    have hW : bW D g A s H locs [mW g adM kM tM M] := hW
    refine lv_if_ne (tgt := 27) hx hb dX3_heads_17 (by decide) (fun c6 => ?_) (fun c6 => ?_)
    · have hf := o_f hf c6
      refine lv_aload_n hx hb dX3_heads_27 rfl (lv_at hl 0 rfl) ?_
      refine b_get hx hb hts in_X3 hown hW 0 0 3 12 rfl mW_0 rfl (by decide) ⟨rfl, rfl, rfl⟩ (hts _ q1471) mW_g12 dX3_heads_28 ?_
      refine lv_iload_n hx hb dX3_heads_31 rfl (lv_at hl 1 rfl) ?_
      obtain ⟨h7, hf⟩ := o_cs hf
      refine b_agrI hx hb hW 0 24 rfl mW_24 h7 dX3_heads_32 ?_
      refine lv_iconst (v := 1) hx hb dX3_heads_33 (by decide) ?_
      refine b_iald hx hb hW 0 (25 + ix x1) rfl (mW_r25 (inB_lt h7)) (by decide) dX3_heads_34 ?_
      obtain ⟨v8, ev8, hf⟩ := o_ls hf
      refine b_topi ev8 ?_
      refine lv_istore_n (lv' := [(3, .int v8), (0, .ref (adM 0)), (1, .int x1), (2, .int x2)]) hx hb dX3_heads_35 rfl hl (by decide) rfl (fun ls hl => ?_)
      refine lv_aload_n hx hb dX3_heads_36 rfl (lv_at hl 1 rfl) ?_
      refine b_get hx hb hts in_X3 hown hW 0 0 3 12 rfl mW_0 rfl (by decide) ⟨rfl, rfl, rfl⟩ (hts _ q1471) mW_g12 dX3_heads_37 ?_
      refine lv_iload_n hx hb dX3_heads_40 rfl (lv_at hl 2 rfl) ?_
      refine b_agrI hx hb hW 0 24 rfl mW_24 h7 dX3_heads_41 ?_
      refine lv_iconst (v := 1) hx hb dX3_heads_42 (by decide) ?_
      refine lv_iload_n hx hb dX3_heads_43 rfl (lv_at hl 3 rfl) ?_
      obtain ⟨M9, eM9, hf⟩ := o_ls hf
      refine b_iast hx hb hW 0 (25 + ix x1) rfl (mW_r25 (inB_lt h7)) (mW_rs25 (inB_lt h7) eM9) rfl (by decide) dX3_heads_44 (fun H locs hW => ?_)
      have hW : bW D g A s H locs [mW g adM kM tM M9] := hW
      refine lv_iload_n hx hb dX3_heads_45 rfl (lv_at hl 0 rfl) ?_
      cases hf
      exact b_iret hx hb hr hlk hE hW () rfl trivial rfl dX3_heads_46
    · have hf := o_t hf c6
      refine lv_aload_n hx hb dX3_heads_20 rfl (lv_at hl 0 rfl) ?_
      refine lv_bipush (v := (-2)) hx hb dX3_heads_21 (by decide) ?_
      obtain ⟨r10, M11, hc11, hf⟩ := o_b2s hf
      have hp11 : List.Perm [mW g adM kM tM M] ([mW g adM kM tM M] ++ []) := b_perm [0] [] 1 rfl rfl rfl rfl
      refine b_call0 ⟨rfl, rfl⟩ (va_runV (As := [.int (-2)]) (rest := []) ⟨hx, hb, hml, hown, hts⟩ (m_X3_refuse l D g H.size adM kM tM M (-2) r10 M11 hc11) (cwV 1 hts (lw_V q1572 q1574 qs33 q79 q1575) rfl rfl rfl (by decide +kernel) ⟨Nat.le_of_ble_eq_true rfl, Nat.le_of_ble_eq_true rfl⟩) (b_preV (pp := 0) (q := 0) hW hp11 rfl mW_0 rfl) rfl rfl hl.1 rfl (lv_room (Nat.le_of_ble_eq_true rfl)) dX3_heads_23 ⟨Nat.le_of_ble_eq_true rfl, Nat.le_of_ble_eq_true rfl⟩) hW hp11 (fun _ _ H locs hW => ?_)
      have hW : bW D g A s H locs [mW g adM kM tM M11] := hW
      cases hf
      exact b_iret hx hb hr hlk hE hW () rfl trivial rfl dX3_heads_26
def f_X3_feed (M : BC) (x1 : Int32) : Option (Int32 × BC) :=
 o_b1 (f_X3_in x1.toInt64 0 255) fun (r1 : Int32) =>
 (if r1 = 0 then
 o_b2 (f_X3_refuse M (-2)) fun (r11 : Int32) (M12 : BC) =>
 some (r11, M12)
 else
 (if (M.1 0 0) = 250 then
 o_b2 (f_X3_refuse M (-6)) fun (r9 : Int32) (M10 : BC) =>
 some (r9, M10)
 else
 o_lt (M.1 0 0) fun (v4 : Int32) =>
 o_lt (v4 + 1) fun (v5 : Int32) =>
 o_lt (bI M 0 (upd (M.1 0) 0 v5)) fun (M6 : BC) =>
 o_ck (inB v4 250) (o_lt (bI M6 15 (upd (M6.1 15) (ix v4) x1)) fun (M8 : BC) =>
 some (M8.1 0 0, M8))))
abbrev rm_X3_feed : Room := { frames := 1, cells := 0, slots := 0, locals := 25 }
set_option maxHeartbeats 4000000 in
set_option maxRecDepth 100000 in
theorem m_X3_feed (l : Launch) (D : va_G) (g : Nat → ClassId) (sz : Nat) (adM : Nat → Nat) (kM : Option Nat) (tM : Option Nat) (M : BC) (x1 : Int32) (rO : Int32) (MO : BC) (hf : f_X3_feed M x1 = some (rO, MO)) : bMet (S := Unit) l yX3_feed (ws_ yX3_feed cX3_feed 2 (some .int)) rm_X3_feed D g sz [.ref (adM 0), .int x1] [mW g adM kM tM M] (fun _ => True) (fun _ => some (.int rO)) (fun _ => [mW g adM kM tM MO]) := by
  refine b_met (by decide) (Nat.le_of_ble_eq_true rfl) ?_
  intro p e s m args below meth c A Q ls hx hb hml hr hlk hown hname hts hE hl hW
  revert hW; generalize s.heap = H; intro hW
  have hl : lv_has ls 2 [(0, .ref (adM 0)), (1, .int x1)] := hl
  rw [f_X3_feed] at hf
  refine lv_iload_n hx hb dX3_feed_0 rfl (lv_at hl 1 rfl) ?_
  refine lv_i2l hx hb dX3_feed_1 rfl ?_
  refine lv_lconst (v := 0) hx hb dX3_feed_2 (by decide) ?_
  refine lv_ldc2 (v := 255) hx hb hown (hts _ q1692) dX3_feed_3 ?_
  obtain ⟨r1, hc1, hf⟩ := o_b1s hf
  have hp1 : List.Perm [mW g adM kM tM M] ([] ++ [mW g adM kM tM M]) := b_perm [] [0] 1 rfl rfl rfl rfl
  refine b_call0 ⟨rfl, rfl⟩ (va_runS (As := [.long x1.toInt64, .long 0, .long 255]) (rest := []) ⟨hx, hb, hml, hown, hts⟩ (m_X3_in l D g H.size x1.toInt64 0 255 r1 hc1) (va_cwS 3 hts (lw_S q1567 q1568 q79 q1569) rfl rfl rfl (by decide +kernel) ⟨Nat.le_of_ble_eq_true rfl, Nat.le_of_ble_eq_true rfl⟩) (b_preS hW hp1) rfl rfl hl.1 rfl (lv_room (Nat.le_of_ble_eq_true rfl)) dX3_feed_6 ⟨Nat.le_of_ble_eq_true rfl, Nat.le_of_ble_eq_true rfl⟩) hW hp1 (fun _ _ H locs hW => ?_)
  have hW : bW D g A s H locs [mW g adM kM tM M] := hW
  refine lv_if_ne (tgt := 19) hx hb dX3_feed_9 (by decide) (fun c2 => ?_) (fun c2 => ?_)
  · have hf := o_f hf c2
    refine lv_aload_n hx hb dX3_feed_19 rfl (lv_at hl 0 rfl) ?_
    refine b_get hx hb hts in_X3 hown hW 0 0 3 7 rfl mW_0 rfl (by decide) ⟨rfl, rfl, rfl⟩ (hts _ q1466) mW_g7 dX3_feed_20 ?_
    refine lv_sipush (v := 250) hx hb dX3_feed_23 (by decide) ?_
    refine lv_icmp_ne (tgt := 36) hx hb dX3_feed_26 (by decide) (fun c3 => ?_) (fun c3 => ?_)
    · have hf := o_f hf c3
      refine lv_aload_n hx hb dX3_feed_36 rfl (lv_at hl 0 rfl) ?_
      refine b_get hx hb hts in_X3 hown hW 0 0 3 6 rfl mW_0 rfl (by decide) ⟨rfl, rfl, rfl⟩ (hts _ q1465) mW_g6 dX3_feed_37 ?_
      refine lv_aload_n hx hb dX3_feed_40 rfl (lv_at hl 0 rfl) ?_
      refine lv_dup hx hb dX3_feed_41 rfl ?_
      refine b_get hx hb hts in_X3 hown hW 0 0 3 7 rfl mW_0 rfl (by decide) ⟨rfl, rfl, rfl⟩ (hts _ q1466) mW_g7 dX3_feed_42 ?_
      obtain ⟨v4, ev4, hf⟩ := o_ls hf
      refine b_topi ev4 ?_
      refine lv_dup_x1 hx hb dX3_feed_45 rfl rfl ?_
      refine lv_iconst (v := 1) hx hb dX3_feed_46 (by decide) ?_
      refine lv_iadd hx hb dX3_feed_47 ?_
      obtain ⟨v5, ev5, hf⟩ := o_ls hf
      refine b_topi ev5 ?_
      obtain ⟨M6, eM6, hf⟩ := o_ls hf
      refine b_put hx hb hts in_X3 tyX3 tyX3_ok nmX3 hown hW 0 0 3 7 rfl mW_0 (mW_p7 eM6) rfl rfl (by decide) ⟨rfl, rfl, rfl⟩ (hts _ q1466) rfl (ty := .int) rfl rfl rfl (by rw [mW_l]; decide) dX3_feed_48 (fun H locs hW => ?_)
      have hW : bW D g A s H locs [mW g adM kM tM M6] := hW
      refine lv_iload_n hx hb dX3_feed_51 rfl (lv_at hl 1 rfl) ?_
      obtain ⟨h7, hf⟩ := o_cs hf
      obtain ⟨M8, eM8, hf⟩ := o_ls hf
      refine b_iast hx hb hW 0 15 rfl mW_15 (mW_s15 eM8) rfl h7 dX3_feed_52 (fun H locs hW => ?_)
      have hW : bW D g A s H locs [mW g adM kM tM M8] := hW
      refine lv_aload_n hx hb dX3_feed_53 rfl (lv_at hl 0 rfl) ?_
      refine b_get hx hb hts in_X3 hown hW 0 0 3 7 rfl mW_0 rfl (by decide) ⟨rfl, rfl, rfl⟩ (hts _ q1466) mW_g7 dX3_feed_54 ?_
      cases hf
      exact b_iret hx hb hr hlk hE hW () rfl trivial rfl dX3_feed_57
    · have hf := o_t hf c3
      refine lv_aload_n hx hb dX3_feed_29 rfl (lv_at hl 0 rfl) ?_
      refine lv_bipush (v := (-6)) hx hb dX3_feed_30 (by decide) ?_
      obtain ⟨r9, M10, hc10, hf⟩ := o_b2s hf
      have hp10 : List.Perm [mW g adM kM tM M] ([mW g adM kM tM M] ++ []) := b_perm [0] [] 1 rfl rfl rfl rfl
      refine b_call0 ⟨rfl, rfl⟩ (va_runV (As := [.int (-6)]) (rest := []) ⟨hx, hb, hml, hown, hts⟩ (m_X3_refuse l D g H.size adM kM tM M (-6) r9 M10 hc10) (cwV 1 hts (lw_V q1572 q1574 qs33 q79 q1575) rfl rfl rfl (by decide +kernel) ⟨Nat.le_of_ble_eq_true rfl, Nat.le_of_ble_eq_true rfl⟩) (b_preV (pp := 0) (q := 0) hW hp10 rfl mW_0 rfl) rfl rfl hl.1 rfl (lv_room (Nat.le_of_ble_eq_true rfl)) dX3_feed_32 ⟨Nat.le_of_ble_eq_true rfl, Nat.le_of_ble_eq_true rfl⟩) hW hp10 (fun _ _ H locs hW => ?_)
      have hW : bW D g A s H locs [mW g adM kM tM M10] := hW
      cases hf
      exact b_iret hx hb hr hlk hE hW () rfl trivial rfl dX3_feed_35
  · have hf := o_t hf c2
    refine lv_aload_n hx hb dX3_feed_12 rfl (lv_at hl 0 rfl) ?_
    refine lv_bipush (v := (-2)) hx hb dX3_feed_13 (by decide) ?_
    obtain ⟨r11, M12, hc12, hf⟩ := o_b2s hf
    have hp12 : List.Perm [mW g adM kM tM M] ([mW g adM kM tM M] ++ []) := b_perm [0] [] 1 rfl rfl rfl rfl
    refine b_call0 ⟨rfl, rfl⟩ (va_runV (As := [.int (-2)]) (rest := []) ⟨hx, hb, hml, hown, hts⟩ (m_X3_refuse l D g H.size adM kM tM M (-2) r11 M12 hc12) (cwV 1 hts (lw_V q1572 q1574 qs33 q79 q1575) rfl rfl rfl (by decide +kernel) ⟨Nat.le_of_ble_eq_true rfl, Nat.le_of_ble_eq_true rfl⟩) (b_preV (pp := 0) (q := 0) hW hp12 rfl mW_0 rfl) rfl rfl hl.1 rfl (lv_room (Nat.le_of_ble_eq_true rfl)) dX3_feed_15 ⟨Nat.le_of_ble_eq_true rfl, Nat.le_of_ble_eq_true rfl⟩) hW hp12 (fun _ _ H locs hW => ?_)
    have hW : bW D g A s H locs [mW g adM kM tM M12] := hW
    cases hf
    exact b_iret hx hb hr hlk hE hW () rfl trivial rfl dX3_feed_18
def f_X3_wipe (M : BC) : Option (Int32 × BC) :=
 o_lt (M.1 0 0) fun (v1 : Int32) =>
 o_lt (bI M 0 (upd (M.1 0) 0 0)) fun (M2 : BC) =>
 some (v1, M2)
abbrev rm_X3_wipe : Room := { frames := 0, cells := 0, slots := 0, locals := 0 }
set_option maxHeartbeats 4000000 in
set_option maxRecDepth 100000 in
theorem m_X3_wipe (l : Launch) (D : va_G) (g : Nat → ClassId) (sz : Nat) (adM : Nat → Nat) (kM : Option Nat) (tM : Option Nat) (M : BC) (rO : Int32) (MO : BC) (hf : f_X3_wipe M = some (rO, MO)) : bMet (S := Unit) l yX3_wipe (ws_ yX3_wipe cX3_wipe 2 (some .int)) rm_X3_wipe D g sz [.ref (adM 0)] [mW g adM kM tM M] (fun _ => True) (fun _ => some (.int rO)) (fun _ => [mW g adM kM tM MO]) := by
  refine b_met (by decide) (Nat.le_of_ble_eq_true rfl) ?_
  intro p e s m args below meth c A Q ls hx hb hml hr hlk hown hname hts hE hl hW
  revert hW; generalize s.heap = H; intro hW
  have hl : lv_has ls 2 [(0, .ref (adM 0))] := hl
  rw [f_X3_wipe] at hf
  refine lv_aload_n hx hb dX3_wipe_0 rfl (lv_at hl 0 rfl) ?_
  refine b_get hx hb hts in_X3 hown hW 0 0 3 7 rfl mW_0 rfl (by decide) ⟨rfl, rfl, rfl⟩ (hts _ q1466) mW_g7 dX3_wipe_1 ?_
  obtain ⟨v1, ev1, hf⟩ := o_ls hf
  refine b_topi ev1 ?_
  refine lv_istore_n (lv' := [(1, .int v1), (0, .ref (adM 0))]) hx hb dX3_wipe_4 rfl hl (by decide) rfl (fun ls hl => ?_)
  refine lv_aload_n hx hb dX3_wipe_5 rfl (lv_at hl 1 rfl) ?_
  refine lv_iconst (v := 0) hx hb dX3_wipe_6 (by decide) ?_
  obtain ⟨M2, eM2, hf⟩ := o_ls hf
  refine b_put hx hb hts in_X3 tyX3 tyX3_ok nmX3 hown hW 0 0 3 7 rfl mW_0 (mW_p7 eM2) rfl rfl (by decide) ⟨rfl, rfl, rfl⟩ (hts _ q1466) rfl (ty := .int) rfl rfl rfl (by rw [mW_l]; decide) dX3_wipe_7 (fun H locs hW => ?_)
  have hW : bW D g A s H locs [mW g adM kM tM M2] := hW
  refine lv_iload_n hx hb dX3_wipe_10 rfl (lv_at hl 0 rfl) ?_
  cases hf
  exact b_iret hx hb hr hlk hE hW () rfl trivial rfl dX3_wipe_11
def f_X3_isDigit (x1 : Int32) : Option Int32 :=
 (if x1 < 48 then
 some 0
 else
 (if (57 : Int32) < x1 then
 some 0
 else
 some 1))
abbrev rm_X3_isDigit : Room := { frames := 0, cells := 0, slots := 0, locals := 0 }
set_option maxHeartbeats 4000000 in
set_option maxRecDepth 100000 in
theorem m_X3_isDigit (l : Launch) (D : va_G) (g : Nat → ClassId) (sz : Nat)  (x1 : Int32) (rO : Int32) (hf : f_X3_isDigit x1 = some rO) : bMet (S := Unit) l yX3_isDigit (ws_ yX3_isDigit cX3_isDigit 1 (some .boolean)) rm_X3_isDigit D g sz [.int x1] [] (fun _ => True) (fun _ => some (.int rO)) (fun _ => []) := by
  refine b_met (by decide) (Nat.le_of_ble_eq_true rfl) ?_
  intro p e s m args below meth c A Q ls hx hb hml hr hlk hown hname hts hE hl hW
  revert hW; generalize s.heap = H; intro hW
  have hl : lv_has ls 1 [(0, .int x1)] := hl
  rw [f_X3_isDigit] at hf
  refine lv_iload_n hx hb dX3_isDigit_0 rfl (lv_at hl 0 rfl) ?_
  refine lv_bipush (v := 48) hx hb dX3_isDigit_1 (by decide) ?_
  refine lv_icmp_lt (tgt := 16) hx hb dX3_isDigit_3 (by decide) (fun c1 => ?_) (fun c1 => ?_)
  · have hf := o_t hf c1
    refine lv_iconst (v := 0) hx hb dX3_isDigit_16 (by decide) ?_
    cases hf
    exact b_zret hx hb hr hlk hE hW () rfl trivial rfl (by decide) dX3_isDigit_17
  · have hf := o_f hf c1
    refine lv_iload_n hx hb dX3_isDigit_6 rfl (lv_at hl 0 rfl) ?_
    refine lv_bipush (v := 57) hx hb dX3_isDigit_7 (by decide) ?_
    refine lv_icmp_gt (tgt := 16) hx hb dX3_isDigit_9 (by decide) (fun c2 => ?_) (fun c2 => ?_)
    · have hf := o_t hf c2
      refine lv_iconst (v := 0) hx hb dX3_isDigit_16 (by decide) ?_
      cases hf
      exact b_zret hx hb hr hlk hE hW () rfl trivial rfl (by decide) dX3_isDigit_17
    · have hf := o_f hf c2
      refine lv_iconst (v := 1) hx hb dX3_isDigit_12 (by decide) ?_
      refine lv_goto (tgt := 17) hx hb dX3_isDigit_13 (by decide) ?_
      cases hf
      exact b_zret hx hb hr hlk hE hW () rfl trivial rfl (by decide) dX3_isDigit_17
def f_X3_isLetter (x1 : Int32) : Option Int32 :=
 (if x1 < 97 then
 some 0
 else
 (if (122 : Int32) < x1 then
 some 0
 else
 some 1))
abbrev rm_X3_isLetter : Room := { frames := 0, cells := 0, slots := 0, locals := 0 }
set_option maxHeartbeats 4000000 in
set_option maxRecDepth 100000 in
theorem m_X3_isLetter (l : Launch) (D : va_G) (g : Nat → ClassId) (sz : Nat)  (x1 : Int32) (rO : Int32) (hf : f_X3_isLetter x1 = some rO) : bMet (S := Unit) l yX3_isLetter (ws_ yX3_isLetter cX3_isLetter 1 (some .boolean)) rm_X3_isLetter D g sz [.int x1] [] (fun _ => True) (fun _ => some (.int rO)) (fun _ => []) := by
  refine b_met (by decide) (Nat.le_of_ble_eq_true rfl) ?_
  intro p e s m args below meth c A Q ls hx hb hml hr hlk hown hname hts hE hl hW
  revert hW; generalize s.heap = H; intro hW
  have hl : lv_has ls 1 [(0, .int x1)] := hl
  rw [f_X3_isLetter] at hf
  refine lv_iload_n hx hb dX3_isLetter_0 rfl (lv_at hl 0 rfl) ?_
  refine lv_bipush (v := 97) hx hb dX3_isLetter_1 (by decide) ?_
  refine lv_icmp_lt (tgt := 16) hx hb dX3_isLetter_3 (by decide) (fun c1 => ?_) (fun c1 => ?_)
  · have hf := o_t hf c1
    refine lv_iconst (v := 0) hx hb dX3_isLetter_16 (by decide) ?_
    cases hf
    exact b_zret hx hb hr hlk hE hW () rfl trivial rfl (by decide) dX3_isLetter_17
  · have hf := o_f hf c1
    refine lv_iload_n hx hb dX3_isLetter_6 rfl (lv_at hl 0 rfl) ?_
    refine lv_bipush (v := 122) hx hb dX3_isLetter_7 (by decide) ?_
    refine lv_icmp_gt (tgt := 16) hx hb dX3_isLetter_9 (by decide) (fun c2 => ?_) (fun c2 => ?_)
    · have hf := o_t hf c2
      refine lv_iconst (v := 0) hx hb dX3_isLetter_16 (by decide) ?_
      cases hf
      exact b_zret hx hb hr hlk hE hW () rfl trivial rfl (by decide) dX3_isLetter_17
    · have hf := o_f hf c2
      refine lv_iconst (v := 1) hx hb dX3_isLetter_12 (by decide) ?_
      refine lv_goto (tgt := 17) hx hb dX3_isLetter_13 (by decide) ?_
      cases hf
      exact b_zret hx hb hr hlk hE hW () rfl trivial rfl (by decide) dX3_isLetter_17
def f_X3_look_L149  (rec21 : BC → Option BC) (M22 : BC) : Option BC :=
 (if (M22.1 0 0) ≤ (M22.1 0 6) then
 some M22
 else
 o_ck (inB (M22.1 0 6) 250) (o_b1 (f_X3_isDigit (M22.1 15 (ix (M22.1 0 6)))) fun (r25 : Int32) =>
 (if r25 = 0 then
 some M22
 else
 (if (3 : Int32) ≤ ((M22.1 0 6) - (M22.1 0 8)) then
 o_lt (bI M22 0 (upd (M22.1 0) 9 100000)) fun (M28 : BC) =>
 o_lt ((M28.1 0 6) + 1) fun (v29 : Int32) =>
 o_lt (bI M28 0 (upd (M28.1 0) 6 v29)) fun (M30 : BC) =>
 rec21 M30
 else
 o_lt ((((M22.1 0 9) * 10) + (M22.1 15 (ix (M22.1 0 6)))) - 48) fun (v31 : Int32) =>
 o_lt (bI M22 0 (upd (M22.1 0) 9 v31)) fun (M32 : BC) =>
 o_lt ((M32.1 0 6) + 1) fun (v33 : Int32) =>
 o_lt (bI M32 0 (upd (M32.1 0) 6 v33)) fun (M34 : BC) =>
 rec21 M34))))
def f_X3_look_L90  (rec36 : BC → Option BC) (M37 : BC) : Option BC :=
 (if (M37.1 0 0) ≤ (M37.1 0 6) then
 some M37
 else
 o_ck (inB (M37.1 0 6) 250) (o_b1 (f_X3_isLetter (M37.1 15 (ix (M37.1 0 6)))) fun (r40 : Int32) =>
 (if r40 = 0 then
 some M37
 else
 o_lt ((M37.1 0 6) + 1) fun (v42 : Int32) =>
 o_lt (bI M37 0 (upd (M37.1 0) 6 v42)) fun (M43 : BC) =>
 rec36 M43)))
def f_X3_look_L149_64  (rec64 : BC → Option BC) (M65 : BC) : Option BC :=
 (if (M65.1 0 0) ≤ (M65.1 0 6) then
 some M65
 else
 o_ck (inB (M65.1 0 6) 250) (o_b1 (f_X3_isDigit (M65.1 15 (ix (M65.1 0 6)))) fun (r68 : Int32) =>
 (if r68 = 0 then
 some M65
 else
 (if (3 : Int32) ≤ ((M65.1 0 6) - (M65.1 0 8)) then
 o_lt (bI M65 0 (upd (M65.1 0) 9 100000)) fun (M71 : BC) =>
 o_lt ((M71.1 0 6) + 1) fun (v72 : Int32) =>
 o_lt (bI M71 0 (upd (M71.1 0) 6 v72)) fun (M73 : BC) =>
 rec64 M73
 else
 o_lt ((((M65.1 0 9) * 10) + (M65.1 15 (ix (M65.1 0 6)))) - 48) fun (v74 : Int32) =>
 o_lt (bI M65 0 (upd (M65.1 0) 9 v74)) fun (M75 : BC) =>
 o_lt ((M75.1 0 6) + 1) fun (v76 : Int32) =>
 o_lt (bI M75 0 (upd (M75.1 0) 6 v76)) fun (M77 : BC) =>
 rec64 M77))))
def f_X3_look_L90_79  (rec79 : BC → Option BC) (M80 : BC) : Option BC :=
 (if (M80.1 0 0) ≤ (M80.1 0 6) then
 some M80
 else
 o_ck (inB (M80.1 0 6) 250) (o_b1 (f_X3_isLetter (M80.1 15 (ix (M80.1 0 6)))) fun (r83 : Int32) =>
 (if r83 = 0 then
 some M80
 else
 o_lt ((M80.1 0 6) + 1) fun (v85 : Int32) =>
 o_lt (bI M80 0 (upd (M80.1 0) 6 v85)) fun (M86 : BC) =>
 rec79 M86)))
def f_X3_look_L0 (fu : Nat) (rec1 : BC → Option BC) (M2 : BC) : Option BC :=
 (if (M2.1 0 0) ≤ (M2.1 0 6) then
 o_lt (M2.1 0 6) fun (v4 : Int32) =>
 o_lt (bI M2 0 (upd (M2.1 0) 8 v4)) fun (M5 : BC) =>
 o_lt (bI M5 0 (upd (M5.1 0) 9 0)) fun (M6 : BC) =>
 (if (M6.1 0 6) = (M6.1 0 0) then
 o_lt (bI M6 0 (upd (M6.1 0) 7 0)) fun (M44 : BC) =>
 some M44
 else
 o_ck (inB (M6.1 0 6) 250) (o_b1 (f_X3_isLetter (M6.1 15 (ix (M6.1 0 6)))) fun (r9 : Int32) =>
 (if r9 = 0 then
 o_b1 (f_X3_isDigit (M6.1 15 (ix (M6.1 0 6)))) fun (r11 : Int32) =>
 (if r11 = 0 then
 (if (M6.1 15 (ix (M6.1 0 6))) = 59 then
 o_lt (bI M6 0 (upd (M6.1 0) 7 3)) fun (M17 : BC) =>
 o_lt ((M17.1 0 6) + 1) fun (v18 : Int32) =>
 o_lt (bI M17 0 (upd (M17.1 0) 6 v18)) fun (M19 : BC) =>
 some M19
 else
 o_lt (bI M6 0 (upd (M6.1 0) 7 4)) fun (M14 : BC) =>
 o_lt ((M14.1 0 6) + 1) fun (v15 : Int32) =>
 o_lt (bI M14 0 (upd (M14.1 0) 6 v15)) fun (M16 : BC) =>
 some M16)
 else
 o_lt (bI M6 0 (upd (M6.1 0) 7 2)) fun (M20 : BC) =>
 o_lp (f_X3_look_L149) fu M20)
 else
 o_lt (bI M6 0 (upd (M6.1 0) 7 1)) fun (M35 : BC) =>
 o_lp (f_X3_look_L90) fu M35)))
 else
 o_ck (inB (M2.1 0 6) 250) ((if (M2.1 15 (ix (M2.1 0 6))) = 32 then
 o_lt ((M2.1 0 6) + 1) fun (v88 : Int32) =>
 o_lt (bI M2 0 (upd (M2.1 0) 6 v88)) fun (M89 : BC) =>
 rec1 M89
 else
 o_lt (M2.1 0 6) fun (v47 : Int32) =>
 o_lt (bI M2 0 (upd (M2.1 0) 8 v47)) fun (M48 : BC) =>
 o_lt (bI M48 0 (upd (M48.1 0) 9 0)) fun (M49 : BC) =>
 (if (M49.1 0 6) = (M49.1 0 0) then
 o_lt (bI M49 0 (upd (M49.1 0) 7 0)) fun (M87 : BC) =>
 some M87
 else
 o_ck (inB (M49.1 0 6) 250) (o_b1 (f_X3_isLetter (M49.1 15 (ix (M49.1 0 6)))) fun (r52 : Int32) =>
 (if r52 = 0 then
 o_b1 (f_X3_isDigit (M49.1 15 (ix (M49.1 0 6)))) fun (r54 : Int32) =>
 (if r54 = 0 then
 (if (M49.1 15 (ix (M49.1 0 6))) = 59 then
 o_lt (bI M49 0 (upd (M49.1 0) 7 3)) fun (M60 : BC) =>
 o_lt ((M60.1 0 6) + 1) fun (v61 : Int32) =>
 o_lt (bI M60 0 (upd (M60.1 0) 6 v61)) fun (M62 : BC) =>
 some M62
 else
 o_lt (bI M49 0 (upd (M49.1 0) 7 4)) fun (M57 : BC) =>
 o_lt ((M57.1 0 6) + 1) fun (v58 : Int32) =>
 o_lt (bI M57 0 (upd (M57.1 0) 6 v58)) fun (M59 : BC) =>
 some M59)
 else
 o_lt (bI M49 0 (upd (M49.1 0) 7 2)) fun (M63 : BC) =>
 o_lp (f_X3_look_L149_64) fu M63)
 else
 o_lt (bI M49 0 (upd (M49.1 0) 7 1)) fun (M78 : BC) =>
 o_lp (f_X3_look_L90_79) fu M78))))))
def f_X3_look (fu : Nat) (M : BC) : Option BC :=
 o_lp (f_X3_look_L0 fu) fu M
abbrev rm_X3_look : Room := { frames := 1, cells := 0, slots := 0, locals := 20 }
set_option maxHeartbeats 4000000 in
set_option maxRecDepth 100000 in
theorem m_X3_look (l : Launch) (D : va_G) (g : Nat → ClassId) (sz : Nat) (adM : Nat → Nat) (kM : Option Nat) (tM : Option Nat) (fu : Nat) (M : BC) (MO : BC) (hf : f_X3_look fu M = some MO) : bMet (S := Unit) l yX3_look (ws_ yX3_look cX3_look 1 none) rm_X3_look D g sz [.ref (adM 0)] [mW g adM kM tM M] (fun _ => True) (fun _ => none) (fun _ => [mW g adM kM tM MO]) := by
  refine b_met (by decide) (Nat.le_of_ble_eq_true rfl) ?_
  intro p e s m args below meth c A Q ls hx hb hml hr hlk hown hname hts hE hl hW
  revert hW; generalize s.heap = H; intro hW
  have hl : lv_has ls 1 [(0, .ref (adM 0))] := hl
  rw [f_X3_look] at hf
  obtain ⟨stp1, est1, hf⟩ := o_ln hf
  have L1 : ∀ (n : Nat) (M2 : BC) (H : Heap) (locs : List Loc) (ls : Array Slot), bW D g A s H locs [mW g adM kM tM M2] → lv_has ls 1 [(0, .ref (adM 0))] → o_lp stp1 n M2 = some MO → W p l e rm_X3_look s m args below meth c H locs 0 0 Q (F0 m 0 ls []) := by
    intro n1
    induction n1 with
    | zero => intro M2 H locs ls hW hl hf; exact (o_lz hf).elim
    | succ n1 ih1 =>
      intro M2 H locs ls hW hl hf
      have hf := o_lu est1 hf
      rw [f_X3_look_L0] at hf
      refine lv_aload_n hx hb dX3_look_0 rfl (lv_at hl 0 rfl) ?_
      refine b_get hx hb hts in_X3 hown hW 0 0 3 18 rfl mW_0 rfl (by decide) ⟨rfl, rfl, rfl⟩ (hts _ q1477) mW_g18 dX3_look_1 ?_
      refine lv_aload_n hx hb dX3_look_4 rfl (lv_at hl 0 rfl) ?_
      refine b_get hx hb hts in_X3 hown hW 0 0 3 7 rfl mW_0 rfl (by decide) ⟨rfl, rfl, rfl⟩ (hts _ q1466) mW_g7 dX3_look_5 ?_
      refine lv_icmp_ge (tgt := 38) hx hb dX3_look_8 (by decide) (fun c3 => ?_) (fun c3 => ?_)
      · have hf := o_t hf c3
        refine lv_aload_n hx hb dX3_look_38 rfl (lv_at hl 0 rfl) ?_
        refine lv_aload_n hx hb dX3_look_39 rfl (lv_at hl 0 rfl) ?_
        refine b_get hx hb hts in_X3 hown hW 0 0 3 18 rfl mW_0 rfl (by decide) ⟨rfl, rfl, rfl⟩ (hts _ q1477) mW_g18 dX3_look_40 ?_
        obtain ⟨v4, ev4, hf⟩ := o_ls hf
        refine b_topi ev4 ?_
        obtain ⟨M5, eM5, hf⟩ := o_ls hf
        refine b_put hx hb hts in_X3 tyX3 tyX3_ok nmX3 hown hW 0 0 3 20 rfl mW_0 (mW_p20 eM5) rfl rfl (by decide) ⟨rfl, rfl, rfl⟩ (hts _ q1479) rfl (ty := .int) rfl rfl rfl (by rw [mW_l]; decide) dX3_look_43 (fun H locs hW => ?_)
        have hW : bW D g A s H locs [mW g adM kM tM M5] := hW
        refine lv_aload_n hx hb dX3_look_46 rfl (lv_at hl 0 rfl) ?_
        refine lv_iconst (v := 0) hx hb dX3_look_47 (by decide) ?_
        obtain ⟨M6, eM6, hf⟩ := o_ls hf
        refine b_put hx hb hts in_X3 tyX3 tyX3_ok nmX3 hown hW 0 0 3 21 rfl mW_0 (mW_p21 eM6) rfl rfl (by decide) ⟨rfl, rfl, rfl⟩ (hts _ q1480) rfl (ty := .int) rfl rfl rfl (by rw [mW_l]; decide) dX3_look_48 (fun H locs hW => ?_)
        have hW : bW D g A s H locs [mW g adM kM tM M6] := hW
        refine lv_aload_n hx hb dX3_look_51 rfl (lv_at hl 0 rfl) ?_
        refine b_get hx hb hts in_X3 hown hW 0 0 3 18 rfl mW_0 rfl (by decide) ⟨rfl, rfl, rfl⟩ (hts _ q1477) mW_g18 dX3_look_52 ?_
        refine lv_aload_n hx hb dX3_look_55 rfl (lv_at hl 0 rfl) ?_
        refine b_get hx hb hts in_X3 hown hW 0 0 3 7 rfl mW_0 rfl (by decide) ⟨rfl, rfl, rfl⟩ (hts _ q1466) mW_g7 dX3_look_56 ?_
        refine lv_icmp_ne (tgt := 70) hx hb dX3_look_59 (by decide) (fun c7 => ?_) (fun c7 => ?_)
        · have hf := o_f hf c7
          refine lv_aload_n hx hb dX3_look_70 rfl (lv_at hl 0 rfl) ?_
          refine b_get hx hb hts in_X3 hown hW 0 0 3 6 rfl mW_0 rfl (by decide) ⟨rfl, rfl, rfl⟩ (hts _ q1465) mW_g6 dX3_look_71 ?_
          refine lv_aload_n hx hb dX3_look_74 rfl (lv_at hl 0 rfl) ?_
          refine b_get hx hb hts in_X3 hown hW 0 0 3 18 rfl mW_0 rfl (by decide) ⟨rfl, rfl, rfl⟩ (hts _ q1477) mW_g18 dX3_look_75 ?_
          obtain ⟨h8, hf⟩ := o_cs hf
          refine b_iald hx hb hW 0 15 rfl mW_15 h8 dX3_look_78 ?_
          obtain ⟨r9, hc9, hf⟩ := o_b1s hf
          have hp9 : List.Perm [mW g adM kM tM M6] ([] ++ [mW g adM kM tM M6]) := b_perm [] [0] 1 rfl rfl rfl rfl
          refine b_call0 ⟨rfl, rfl⟩ (va_runS (As := [.int (M6.1 15 (ix (M6.1 0 6)))]) (rest := []) ⟨hx, hb, hml, hown, hts⟩ (m_X3_isLetter l D g H.size (M6.1 15 (ix (M6.1 0 6))) r9 hc9) (va_cwS 1 hts (lw_S q1722 q1723 q79 q1724) rfl rfl rfl (by decide +kernel) ⟨Nat.le_of_ble_eq_true rfl, Nat.le_of_ble_eq_true rfl⟩) (b_preS hW hp9) rfl rfl hl.1 rfl (lv_room (Nat.le_of_ble_eq_true rfl)) dX3_look_79 ⟨Nat.le_of_ble_eq_true rfl, Nat.le_of_ble_eq_true rfl⟩) hW hp9 (fun _ _ H locs hW => ?_)
          have hW : bW D g A s H locs [mW g adM kM tM M6] := hW
          refine lv_if_eq (tgt := 129) hx hb dX3_look_82 (by decide) (fun c10 => ?_) (fun c10 => ?_)
          · have hf := o_t hf c10
            refine lv_aload_n hx hb dX3_look_129 rfl (lv_at hl 0 rfl) ?_
            refine b_get hx hb hts in_X3 hown hW 0 0 3 6 rfl mW_0 rfl (by decide) ⟨rfl, rfl, rfl⟩ (hts _ q1465) mW_g6 dX3_look_130 ?_
            refine lv_aload_n hx hb dX3_look_133 rfl (lv_at hl 0 rfl) ?_
            refine b_get hx hb hts in_X3 hown hW 0 0 3 18 rfl mW_0 rfl (by decide) ⟨rfl, rfl, rfl⟩ (hts _ q1477) mW_g18 dX3_look_134 ?_
            refine b_iald hx hb hW 0 15 rfl mW_15 h8 dX3_look_137 ?_
            obtain ⟨r11, hc11, hf⟩ := o_b1s hf
            have hp11 : List.Perm [mW g adM kM tM M6] ([] ++ [mW g adM kM tM M6]) := b_perm [] [0] 1 rfl rfl rfl rfl
            refine b_call0 ⟨rfl, rfl⟩ (va_runS (As := [.int (M6.1 15 (ix (M6.1 0 6)))]) (rest := []) ⟨hx, hb, hml, hown, hts⟩ (m_X3_isDigit l D g H.size (M6.1 15 (ix (M6.1 0 6))) r11 hc11) (va_cwS 1 hts (lw_S q1725 q1726 q79 q1727) rfl rfl rfl (by decide +kernel) ⟨Nat.le_of_ble_eq_true rfl, Nat.le_of_ble_eq_true rfl⟩) (b_preS hW hp11) rfl rfl hl.1 rfl (lv_room (Nat.le_of_ble_eq_true rfl)) dX3_look_138 ⟨Nat.le_of_ble_eq_true rfl, Nat.le_of_ble_eq_true rfl⟩) hW hp11 (fun _ _ H locs hW => ?_)
            have hW : bW D g A s H locs [mW g adM kM tM M6] := hW
            refine lv_if_eq (tgt := 230) hx hb dX3_look_141 (by decide) (fun c12 => ?_) (fun c12 => ?_)
            · have hf := o_t hf c12
              refine lv_aload_n hx hb dX3_look_230 rfl (lv_at hl 0 rfl) ?_
              refine lv_aload_n hx hb dX3_look_231 rfl (lv_at hl 0 rfl) ?_
              refine b_get hx hb hts in_X3 hown hW 0 0 3 6 rfl mW_0 rfl (by decide) ⟨rfl, rfl, rfl⟩ (hts _ q1465) mW_g6 dX3_look_232 ?_
              refine lv_aload_n hx hb dX3_look_235 rfl (lv_at hl 0 rfl) ?_
              refine b_get hx hb hts in_X3 hown hW 0 0 3 18 rfl mW_0 rfl (by decide) ⟨rfl, rfl, rfl⟩ (hts _ q1477) mW_g18 dX3_look_236 ?_
              refine b_iald hx hb hW 0 15 rfl mW_15 h8 dX3_look_239 ?_
              refine lv_bipush (v := 59) hx hb dX3_look_240 (by decide) ?_
              refine lv_icmp_ne (tgt := 249) hx hb dX3_look_242 (by decide) (fun c13 => ?_) (fun c13 => ?_)
              · have hf := o_f hf c13
                refine lv_iconst (v := 4) hx hb dX3_look_249 (by decide) ?_
                obtain ⟨M14, eM14, hf⟩ := o_ls hf
                refine b_put hx hb hts in_X3 tyX3 tyX3_ok nmX3 hown hW 0 0 3 19 rfl mW_0 (mW_p19 eM14) rfl rfl (by decide) ⟨rfl, rfl, rfl⟩ (hts _ q1478) rfl (ty := .int) rfl rfl rfl (by rw [mW_l]; decide) dX3_look_250 (fun H locs hW => ?_)
                have hW : bW D g A s H locs [mW g adM kM tM M14] := hW
                refine lv_aload_n hx hb dX3_look_253 rfl (lv_at hl 0 rfl) ?_
                refine lv_dup hx hb dX3_look_254 rfl ?_
                refine b_get hx hb hts in_X3 hown hW 0 0 3 18 rfl mW_0 rfl (by decide) ⟨rfl, rfl, rfl⟩ (hts _ q1477) mW_g18 dX3_look_255 ?_
                refine lv_iconst (v := 1) hx hb dX3_look_258 (by decide) ?_
                refine lv_iadd hx hb dX3_look_259 ?_
                obtain ⟨v15, ev15, hf⟩ := o_ls hf
                refine b_topi ev15 ?_
                obtain ⟨M16, eM16, hf⟩ := o_ls hf
                refine b_put hx hb hts in_X3 tyX3 tyX3_ok nmX3 hown hW 0 0 3 18 rfl mW_0 (mW_p18 eM16) rfl rfl (by decide) ⟨rfl, rfl, rfl⟩ (hts _ q1477) rfl (ty := .int) rfl rfl rfl (by rw [mW_l]; decide) dX3_look_260 (fun H locs hW => ?_)
                have hW : bW D g A s H locs [mW g adM kM tM M16] := hW
                cases hf
                exact b_vret hx hb hr hlk hE hW () rfl trivial rfl dX3_look_263
              · have hf := o_t hf c13
                refine lv_iconst (v := 3) hx hb dX3_look_245 (by decide) ?_
                refine lv_goto (tgt := 250) hx hb dX3_look_246 (by decide) ?_
                obtain ⟨M17, eM17, hf⟩ := o_ls hf
                refine b_put hx hb hts in_X3 tyX3 tyX3_ok nmX3 hown hW 0 0 3 19 rfl mW_0 (mW_p19 eM17) rfl rfl (by decide) ⟨rfl, rfl, rfl⟩ (hts _ q1478) rfl (ty := .int) rfl rfl rfl (by rw [mW_l]; decide) dX3_look_250 (fun H locs hW => ?_)
                have hW : bW D g A s H locs [mW g adM kM tM M17] := hW
                refine lv_aload_n hx hb dX3_look_253 rfl (lv_at hl 0 rfl) ?_
                refine lv_dup hx hb dX3_look_254 rfl ?_
                refine b_get hx hb hts in_X3 hown hW 0 0 3 18 rfl mW_0 rfl (by decide) ⟨rfl, rfl, rfl⟩ (hts _ q1477) mW_g18 dX3_look_255 ?_
                refine lv_iconst (v := 1) hx hb dX3_look_258 (by decide) ?_
                refine lv_iadd hx hb dX3_look_259 ?_
                obtain ⟨v18, ev18, hf⟩ := o_ls hf
                refine b_topi ev18 ?_
                obtain ⟨M19, eM19, hf⟩ := o_ls hf
                refine b_put hx hb hts in_X3 tyX3 tyX3_ok nmX3 hown hW 0 0 3 18 rfl mW_0 (mW_p18 eM19) rfl rfl (by decide) ⟨rfl, rfl, rfl⟩ (hts _ q1477) rfl (ty := .int) rfl rfl rfl (by rw [mW_l]; decide) dX3_look_260 (fun H locs hW => ?_)
                have hW : bW D g A s H locs [mW g adM kM tM M19] := hW
                cases hf
                exact b_vret hx hb hr hlk hE hW () rfl trivial rfl dX3_look_263
            · have hf := o_f hf c12
              refine lv_aload_n hx hb dX3_look_144 rfl (lv_at hl 0 rfl) ?_
              refine lv_iconst (v := 2) hx hb dX3_look_145 (by decide) ?_
              obtain ⟨M20, eM20, hf⟩ := o_ls hf
              refine b_put hx hb hts in_X3 tyX3 tyX3_ok nmX3 hown hW 0 0 3 19 rfl mW_0 (mW_p19 eM20) rfl rfl (by decide) ⟨rfl, rfl, rfl⟩ (hts _ q1478) rfl (ty := .int) rfl rfl rfl (by rw [mW_l]; decide) dX3_look_146 (fun H locs hW => ?_)
              have hW : bW D g A s H locs [mW g adM kM tM M20] := hW
              obtain ⟨stp21, est21, hf⟩ := o_ln hf
              have L21 : ∀ (n : Nat) (M22 : BC) (H : Heap) (locs : List Loc) (ls : Array Slot), bW D g A s H locs [mW g adM kM tM M22] → lv_has ls 1 [(0, .ref (adM 0))] → o_lp stp21 n M22 = some MO → W p l e rm_X3_look s m args below meth c H locs 0 0 Q (F0 m 149 ls []) := by
                intro n21
                induction n21 with
                | zero => intro M22 H locs ls hW hl hf; exact (o_lz hf).elim
                | succ n21 ih21 =>
                  intro M22 H locs ls hW hl hf
                  have hf := o_lu est21 hf
                  rw [f_X3_look_L149] at hf
                  refine lv_aload_n hx hb dX3_look_149 rfl (lv_at hl 0 rfl) ?_
                  refine b_get hx hb hts in_X3 hown hW 0 0 3 18 rfl mW_0 rfl (by decide) ⟨rfl, rfl, rfl⟩ (hts _ q1477) mW_g18 dX3_look_150 ?_
                  refine lv_aload_n hx hb dX3_look_153 rfl (lv_at hl 0 rfl) ?_
                  refine b_get hx hb hts in_X3 hown hW 0 0 3 7 rfl mW_0 rfl (by decide) ⟨rfl, rfl, rfl⟩ (hts _ q1466) mW_g7 dX3_look_154 ?_
                  refine lv_icmp_ge (tgt := 263) hx hb dX3_look_157 (by decide) (fun c23 => ?_) (fun c23 => ?_)
                  · have hf := o_t hf c23
                    cases hf
                    exact b_vret hx hb hr hlk hE hW () rfl trivial rfl dX3_look_263
                  · have hf := o_f hf c23
                    refine lv_aload_n hx hb dX3_look_160 rfl (lv_at hl 0 rfl) ?_
                    refine b_get hx hb hts in_X3 hown hW 0 0 3 6 rfl mW_0 rfl (by decide) ⟨rfl, rfl, rfl⟩ (hts _ q1465) mW_g6 dX3_look_161 ?_
                    refine lv_aload_n hx hb dX3_look_164 rfl (lv_at hl 0 rfl) ?_
                    refine b_get hx hb hts in_X3 hown hW 0 0 3 18 rfl mW_0 rfl (by decide) ⟨rfl, rfl, rfl⟩ (hts _ q1477) mW_g18 dX3_look_165 ?_
                    obtain ⟨h24, hf⟩ := o_cs hf
                    refine b_iald hx hb hW 0 15 rfl mW_15 h24 dX3_look_168 ?_
                    obtain ⟨r25, hc25, hf⟩ := o_b1s hf
                    have hp25 : List.Perm [mW g adM kM tM M22] ([] ++ [mW g adM kM tM M22]) := b_perm [] [0] 1 rfl rfl rfl rfl
                    refine b_call0 ⟨rfl, rfl⟩ (va_runS (As := [.int (M22.1 15 (ix (M22.1 0 6)))]) (rest := []) ⟨hx, hb, hml, hown, hts⟩ (m_X3_isDigit l D g H.size (M22.1 15 (ix (M22.1 0 6))) r25 hc25) (va_cwS 1 hts (lw_S q1725 q1726 q79 q1727) rfl rfl rfl (by decide +kernel) ⟨Nat.le_of_ble_eq_true rfl, Nat.le_of_ble_eq_true rfl⟩) (b_preS hW hp25) rfl rfl hl.1 rfl (lv_room (Nat.le_of_ble_eq_true rfl)) dX3_look_169 ⟨Nat.le_of_ble_eq_true rfl, Nat.le_of_ble_eq_true rfl⟩) hW hp25 (fun _ _ H locs hW => ?_)
                    have hW : bW D g A s H locs [mW g adM kM tM M22] := hW
                    refine lv_if_eq (tgt := 263) hx hb dX3_look_172 (by decide) (fun c26 => ?_) (fun c26 => ?_)
                    · have hf := o_t hf c26
                      cases hf
                      exact b_vret hx hb hr hlk hE hW () rfl trivial rfl dX3_look_263
                    · have hf := o_f hf c26
                      refine lv_aload_n hx hb dX3_look_175 rfl (lv_at hl 0 rfl) ?_
                      refine lv_aload_n hx hb dX3_look_176 rfl (lv_at hl 0 rfl) ?_
                      refine b_get hx hb hts in_X3 hown hW 0 0 3 18 rfl mW_0 rfl (by decide) ⟨rfl, rfl, rfl⟩ (hts _ q1477) mW_g18 dX3_look_177 ?_
                      refine lv_aload_n hx hb dX3_look_180 rfl (lv_at hl 0 rfl) ?_
                      refine b_get hx hb hts in_X3 hown hW 0 0 3 20 rfl mW_0 rfl (by decide) ⟨rfl, rfl, rfl⟩ (hts _ q1479) mW_g20 dX3_look_181 ?_
                      refine lv_isub hx hb dX3_look_184 ?_
                      refine lv_iconst (v := 3) hx hb dX3_look_185 (by decide) ?_
                      refine lv_icmp_ge (tgt := 212) hx hb dX3_look_186 (by decide) (fun c27 => ?_) (fun c27 => ?_)
                      · have hf := o_t hf c27
                        refine lv_ldc (v := 100000) hx hb hown (hts _ q1728) dX3_look_212 ?_
                        obtain ⟨M28, eM28, hf⟩ := o_ls hf
                        refine b_put hx hb hts in_X3 tyX3 tyX3_ok nmX3 hown hW 0 0 3 21 rfl mW_0 (mW_p21 eM28) rfl rfl (by decide) ⟨rfl, rfl, rfl⟩ (hts _ q1480) rfl (ty := .int) rfl rfl rfl (by rw [mW_l]; decide) dX3_look_214 (fun H locs hW => ?_)
                        have hW : bW D g A s H locs [mW g adM kM tM M28] := hW
                        refine lv_aload_n hx hb dX3_look_217 rfl (lv_at hl 0 rfl) ?_
                        refine lv_dup hx hb dX3_look_218 rfl ?_
                        refine b_get hx hb hts in_X3 hown hW 0 0 3 18 rfl mW_0 rfl (by decide) ⟨rfl, rfl, rfl⟩ (hts _ q1477) mW_g18 dX3_look_219 ?_
                        refine lv_iconst (v := 1) hx hb dX3_look_222 (by decide) ?_
                        refine lv_iadd hx hb dX3_look_223 ?_
                        obtain ⟨v29, ev29, hf⟩ := o_ls hf
                        refine b_topi ev29 ?_
                        obtain ⟨M30, eM30, hf⟩ := o_ls hf
                        refine b_put hx hb hts in_X3 tyX3 tyX3_ok nmX3 hown hW 0 0 3 18 rfl mW_0 (mW_p18 eM30) rfl rfl (by decide) ⟨rfl, rfl, rfl⟩ (hts _ q1477) rfl (ty := .int) rfl rfl rfl (by rw [mW_l]; decide) dX3_look_224 (fun H locs hW => ?_)
                        have hW : bW D g A s H locs [mW g adM kM tM M30] := hW
                        refine lv_goto (tgt := 149) hx hb dX3_look_227 (by decide) ?_
                        exact ih21 _ _ _ _ hW (lv_sub hl [0] rfl) hf
                      · have hf := o_f hf c27
                        refine lv_aload_n hx hb dX3_look_189 rfl (lv_at hl 0 rfl) ?_
                        refine b_get hx hb hts in_X3 hown hW 0 0 3 21 rfl mW_0 rfl (by decide) ⟨rfl, rfl, rfl⟩ (hts _ q1480) mW_g21 dX3_look_190 ?_
                        refine lv_bipush (v := 10) hx hb dX3_look_193 (by decide) ?_
                        refine lv_imul hx hb dX3_look_195 ?_
                        refine lv_aload_n hx hb dX3_look_196 rfl (lv_at hl 0 rfl) ?_
                        refine b_get hx hb hts in_X3 hown hW 0 0 3 6 rfl mW_0 rfl (by decide) ⟨rfl, rfl, rfl⟩ (hts _ q1465) mW_g6 dX3_look_197 ?_
                        refine lv_aload_n hx hb dX3_look_200 rfl (lv_at hl 0 rfl) ?_
                        refine b_get hx hb hts in_X3 hown hW 0 0 3 18 rfl mW_0 rfl (by decide) ⟨rfl, rfl, rfl⟩ (hts _ q1477) mW_g18 dX3_look_201 ?_
                        refine b_iald hx hb hW 0 15 rfl mW_15 h24 dX3_look_204 ?_
                        refine lv_iadd hx hb dX3_look_205 ?_
                        refine lv_bipush (v := 48) hx hb dX3_look_206 (by decide) ?_
                        refine lv_isub hx hb dX3_look_208 ?_
                        refine lv_goto (tgt := 214) hx hb dX3_look_209 (by decide) ?_
                        obtain ⟨v31, ev31, hf⟩ := o_ls hf
                        refine b_topi ev31 ?_
                        obtain ⟨M32, eM32, hf⟩ := o_ls hf
                        refine b_put hx hb hts in_X3 tyX3 tyX3_ok nmX3 hown hW 0 0 3 21 rfl mW_0 (mW_p21 eM32) rfl rfl (by decide) ⟨rfl, rfl, rfl⟩ (hts _ q1480) rfl (ty := .int) rfl rfl rfl (by rw [mW_l]; decide) dX3_look_214 (fun H locs hW => ?_)
                        have hW : bW D g A s H locs [mW g adM kM tM M32] := hW
                        refine lv_aload_n hx hb dX3_look_217 rfl (lv_at hl 0 rfl) ?_
                        refine lv_dup hx hb dX3_look_218 rfl ?_
                        refine b_get hx hb hts in_X3 hown hW 0 0 3 18 rfl mW_0 rfl (by decide) ⟨rfl, rfl, rfl⟩ (hts _ q1477) mW_g18 dX3_look_219 ?_
                        refine lv_iconst (v := 1) hx hb dX3_look_222 (by decide) ?_
                        refine lv_iadd hx hb dX3_look_223 ?_
                        obtain ⟨v33, ev33, hf⟩ := o_ls hf
                        refine b_topi ev33 ?_
                        obtain ⟨M34, eM34, hf⟩ := o_ls hf
                        refine b_put hx hb hts in_X3 tyX3 tyX3_ok nmX3 hown hW 0 0 3 18 rfl mW_0 (mW_p18 eM34) rfl rfl (by decide) ⟨rfl, rfl, rfl⟩ (hts _ q1477) rfl (ty := .int) rfl rfl rfl (by rw [mW_l]; decide) dX3_look_224 (fun H locs hW => ?_)
                        have hW : bW D g A s H locs [mW g adM kM tM M34] := hW
                        refine lv_goto (tgt := 149) hx hb dX3_look_227 (by decide) ?_
                        exact ih21 _ _ _ _ hW (lv_sub hl [0] rfl) hf
              exact L21 _ _ _ _ _ hW (lv_sub hl [0] rfl) hf
          · have hf := o_f hf c10
            refine lv_aload_n hx hb dX3_look_85 rfl (lv_at hl 0 rfl) ?_
            refine lv_iconst (v := 1) hx hb dX3_look_86 (by decide) ?_
            obtain ⟨M35, eM35, hf⟩ := o_ls hf
            refine b_put hx hb hts in_X3 tyX3 tyX3_ok nmX3 hown hW 0 0 3 19 rfl mW_0 (mW_p19 eM35) rfl rfl (by decide) ⟨rfl, rfl, rfl⟩ (hts _ q1478) rfl (ty := .int) rfl rfl rfl (by rw [mW_l]; decide) dX3_look_87 (fun H locs hW => ?_)
            have hW : bW D g A s H locs [mW g adM kM tM M35] := hW
            obtain ⟨stp36, est36, hf⟩ := o_ln hf
            have L36 : ∀ (n : Nat) (M37 : BC) (H : Heap) (locs : List Loc) (ls : Array Slot), bW D g A s H locs [mW g adM kM tM M37] → lv_has ls 1 [(0, .ref (adM 0))] → o_lp stp36 n M37 = some MO → W p l e rm_X3_look s m args below meth c H locs 0 0 Q (F0 m 90 ls []) := by
              intro n36
              induction n36 with
              | zero => intro M37 H locs ls hW hl hf; exact (o_lz hf).elim
              | succ n36 ih36 =>
                intro M37 H locs ls hW hl hf
                have hf := o_lu est36 hf
                rw [f_X3_look_L90] at hf
                refine lv_aload_n hx hb dX3_look_90 rfl (lv_at hl 0 rfl) ?_
                refine b_get hx hb hts in_X3 hown hW 0 0 3 18 rfl mW_0 rfl (by decide) ⟨rfl, rfl, rfl⟩ (hts _ q1477) mW_g18 dX3_look_91 ?_
                refine lv_aload_n hx hb dX3_look_94 rfl (lv_at hl 0 rfl) ?_
                refine b_get hx hb hts in_X3 hown hW 0 0 3 7 rfl mW_0 rfl (by decide) ⟨rfl, rfl, rfl⟩ (hts _ q1466) mW_g7 dX3_look_95 ?_
                refine lv_icmp_ge (tgt := 263) hx hb dX3_look_98 (by decide) (fun c38 => ?_) (fun c38 => ?_)
                · have hf := o_t hf c38
                  cases hf
                  exact b_vret hx hb hr hlk hE hW () rfl trivial rfl dX3_look_263
                · have hf := o_f hf c38
                  refine lv_aload_n hx hb dX3_look_101 rfl (lv_at hl 0 rfl) ?_
                  refine b_get hx hb hts in_X3 hown hW 0 0 3 6 rfl mW_0 rfl (by decide) ⟨rfl, rfl, rfl⟩ (hts _ q1465) mW_g6 dX3_look_102 ?_
                  refine lv_aload_n hx hb dX3_look_105 rfl (lv_at hl 0 rfl) ?_
                  refine b_get hx hb hts in_X3 hown hW 0 0 3 18 rfl mW_0 rfl (by decide) ⟨rfl, rfl, rfl⟩ (hts _ q1477) mW_g18 dX3_look_106 ?_
                  obtain ⟨h39, hf⟩ := o_cs hf
                  refine b_iald hx hb hW 0 15 rfl mW_15 h39 dX3_look_109 ?_
                  obtain ⟨r40, hc40, hf⟩ := o_b1s hf
                  have hp40 : List.Perm [mW g adM kM tM M37] ([] ++ [mW g adM kM tM M37]) := b_perm [] [0] 1 rfl rfl rfl rfl
                  refine b_call0 ⟨rfl, rfl⟩ (va_runS (As := [.int (M37.1 15 (ix (M37.1 0 6)))]) (rest := []) ⟨hx, hb, hml, hown, hts⟩ (m_X3_isLetter l D g H.size (M37.1 15 (ix (M37.1 0 6))) r40 hc40) (va_cwS 1 hts (lw_S q1722 q1723 q79 q1724) rfl rfl rfl (by decide +kernel) ⟨Nat.le_of_ble_eq_true rfl, Nat.le_of_ble_eq_true rfl⟩) (b_preS hW hp40) rfl rfl hl.1 rfl (lv_room (Nat.le_of_ble_eq_true rfl)) dX3_look_110 ⟨Nat.le_of_ble_eq_true rfl, Nat.le_of_ble_eq_true rfl⟩) hW hp40 (fun _ _ H locs hW => ?_)
                  have hW : bW D g A s H locs [mW g adM kM tM M37] := hW
                  refine lv_if_eq (tgt := 263) hx hb dX3_look_113 (by decide) (fun c41 => ?_) (fun c41 => ?_)
                  · have hf := o_t hf c41
                    cases hf
                    exact b_vret hx hb hr hlk hE hW () rfl trivial rfl dX3_look_263
                  · have hf := o_f hf c41
                    refine lv_aload_n hx hb dX3_look_116 rfl (lv_at hl 0 rfl) ?_
                    refine lv_dup hx hb dX3_look_117 rfl ?_
                    refine b_get hx hb hts in_X3 hown hW 0 0 3 18 rfl mW_0 rfl (by decide) ⟨rfl, rfl, rfl⟩ (hts _ q1477) mW_g18 dX3_look_118 ?_
                    refine lv_iconst (v := 1) hx hb dX3_look_121 (by decide) ?_
                    refine lv_iadd hx hb dX3_look_122 ?_
                    obtain ⟨v42, ev42, hf⟩ := o_ls hf
                    refine b_topi ev42 ?_
                    obtain ⟨M43, eM43, hf⟩ := o_ls hf
                    refine b_put hx hb hts in_X3 tyX3 tyX3_ok nmX3 hown hW 0 0 3 18 rfl mW_0 (mW_p18 eM43) rfl rfl (by decide) ⟨rfl, rfl, rfl⟩ (hts _ q1477) rfl (ty := .int) rfl rfl rfl (by rw [mW_l]; decide) dX3_look_123 (fun H locs hW => ?_)
                    have hW : bW D g A s H locs [mW g adM kM tM M43] := hW
                    refine lv_goto (tgt := 90) hx hb dX3_look_126 (by decide) ?_
                    exact ih36 _ _ _ _ hW (lv_sub hl [0] rfl) hf
            exact L36 _ _ _ _ _ hW (lv_sub hl [0] rfl) hf
        · have hf := o_t hf c7
          refine lv_aload_n hx hb dX3_look_62 rfl (lv_at hl 0 rfl) ?_
          refine lv_iconst (v := 0) hx hb dX3_look_63 (by decide) ?_
          obtain ⟨M44, eM44, hf⟩ := o_ls hf
          refine b_put hx hb hts in_X3 tyX3 tyX3_ok nmX3 hown hW 0 0 3 19 rfl mW_0 (mW_p19 eM44) rfl rfl (by decide) ⟨rfl, rfl, rfl⟩ (hts _ q1478) rfl (ty := .int) rfl rfl rfl (by rw [mW_l]; decide) dX3_look_64 (fun H locs hW => ?_)
          have hW : bW D g A s H locs [mW g adM kM tM M44] := hW
          refine lv_goto (tgt := 263) hx hb dX3_look_67 (by decide) ?_
          cases hf
          exact b_vret hx hb hr hlk hE hW () rfl trivial rfl dX3_look_263
      · have hf := o_f hf c3
        refine lv_aload_n hx hb dX3_look_11 rfl (lv_at hl 0 rfl) ?_
        refine b_get hx hb hts in_X3 hown hW 0 0 3 6 rfl mW_0 rfl (by decide) ⟨rfl, rfl, rfl⟩ (hts _ q1465) mW_g6 dX3_look_12 ?_
        refine lv_aload_n hx hb dX3_look_15 rfl (lv_at hl 0 rfl) ?_
        refine b_get hx hb hts in_X3 hown hW 0 0 3 18 rfl mW_0 rfl (by decide) ⟨rfl, rfl, rfl⟩ (hts _ q1477) mW_g18 dX3_look_16 ?_
        obtain ⟨h45, hf⟩ := o_cs hf
        refine b_iald hx hb hW 0 15 rfl mW_15 h45 dX3_look_19 ?_
        refine lv_bipush (v := 32) hx hb dX3_look_20 (by decide) ?_
        refine lv_icmp_ne (tgt := 38) hx hb dX3_look_22 (by decide) (fun c46 => ?_) (fun c46 => ?_)
        · have hf := o_f hf c46
          refine lv_aload_n hx hb dX3_look_38 rfl (lv_at hl 0 rfl) ?_
          refine lv_aload_n hx hb dX3_look_39 rfl (lv_at hl 0 rfl) ?_
          refine b_get hx hb hts in_X3 hown hW 0 0 3 18 rfl mW_0 rfl (by decide) ⟨rfl, rfl, rfl⟩ (hts _ q1477) mW_g18 dX3_look_40 ?_
          obtain ⟨v47, ev47, hf⟩ := o_ls hf
          refine b_topi ev47 ?_
          obtain ⟨M48, eM48, hf⟩ := o_ls hf
          refine b_put hx hb hts in_X3 tyX3 tyX3_ok nmX3 hown hW 0 0 3 20 rfl mW_0 (mW_p20 eM48) rfl rfl (by decide) ⟨rfl, rfl, rfl⟩ (hts _ q1479) rfl (ty := .int) rfl rfl rfl (by rw [mW_l]; decide) dX3_look_43 (fun H locs hW => ?_)
          have hW : bW D g A s H locs [mW g adM kM tM M48] := hW
          refine lv_aload_n hx hb dX3_look_46 rfl (lv_at hl 0 rfl) ?_
          refine lv_iconst (v := 0) hx hb dX3_look_47 (by decide) ?_
          obtain ⟨M49, eM49, hf⟩ := o_ls hf
          refine b_put hx hb hts in_X3 tyX3 tyX3_ok nmX3 hown hW 0 0 3 21 rfl mW_0 (mW_p21 eM49) rfl rfl (by decide) ⟨rfl, rfl, rfl⟩ (hts _ q1480) rfl (ty := .int) rfl rfl rfl (by rw [mW_l]; decide) dX3_look_48 (fun H locs hW => ?_)
          have hW : bW D g A s H locs [mW g adM kM tM M49] := hW
          refine lv_aload_n hx hb dX3_look_51 rfl (lv_at hl 0 rfl) ?_
          refine b_get hx hb hts in_X3 hown hW 0 0 3 18 rfl mW_0 rfl (by decide) ⟨rfl, rfl, rfl⟩ (hts _ q1477) mW_g18 dX3_look_52 ?_
          refine lv_aload_n hx hb dX3_look_55 rfl (lv_at hl 0 rfl) ?_
          refine b_get hx hb hts in_X3 hown hW 0 0 3 7 rfl mW_0 rfl (by decide) ⟨rfl, rfl, rfl⟩ (hts _ q1466) mW_g7 dX3_look_56 ?_
          refine lv_icmp_ne (tgt := 70) hx hb dX3_look_59 (by decide) (fun c50 => ?_) (fun c50 => ?_)
          · have hf := o_f hf c50
            refine lv_aload_n hx hb dX3_look_70 rfl (lv_at hl 0 rfl) ?_
            refine b_get hx hb hts in_X3 hown hW 0 0 3 6 rfl mW_0 rfl (by decide) ⟨rfl, rfl, rfl⟩ (hts _ q1465) mW_g6 dX3_look_71 ?_
            refine lv_aload_n hx hb dX3_look_74 rfl (lv_at hl 0 rfl) ?_
            refine b_get hx hb hts in_X3 hown hW 0 0 3 18 rfl mW_0 rfl (by decide) ⟨rfl, rfl, rfl⟩ (hts _ q1477) mW_g18 dX3_look_75 ?_
            obtain ⟨h51, hf⟩ := o_cs hf
            refine b_iald hx hb hW 0 15 rfl mW_15 h51 dX3_look_78 ?_
            obtain ⟨r52, hc52, hf⟩ := o_b1s hf
            have hp52 : List.Perm [mW g adM kM tM M49] ([] ++ [mW g adM kM tM M49]) := b_perm [] [0] 1 rfl rfl rfl rfl
            refine b_call0 ⟨rfl, rfl⟩ (va_runS (As := [.int (M49.1 15 (ix (M49.1 0 6)))]) (rest := []) ⟨hx, hb, hml, hown, hts⟩ (m_X3_isLetter l D g H.size (M49.1 15 (ix (M49.1 0 6))) r52 hc52) (va_cwS 1 hts (lw_S q1722 q1723 q79 q1724) rfl rfl rfl (by decide +kernel) ⟨Nat.le_of_ble_eq_true rfl, Nat.le_of_ble_eq_true rfl⟩) (b_preS hW hp52) rfl rfl hl.1 rfl (lv_room (Nat.le_of_ble_eq_true rfl)) dX3_look_79 ⟨Nat.le_of_ble_eq_true rfl, Nat.le_of_ble_eq_true rfl⟩) hW hp52 (fun _ _ H locs hW => ?_)
            have hW : bW D g A s H locs [mW g adM kM tM M49] := hW
            refine lv_if_eq (tgt := 129) hx hb dX3_look_82 (by decide) (fun c53 => ?_) (fun c53 => ?_)
            · have hf := o_t hf c53
              refine lv_aload_n hx hb dX3_look_129 rfl (lv_at hl 0 rfl) ?_
              refine b_get hx hb hts in_X3 hown hW 0 0 3 6 rfl mW_0 rfl (by decide) ⟨rfl, rfl, rfl⟩ (hts _ q1465) mW_g6 dX3_look_130 ?_
              refine lv_aload_n hx hb dX3_look_133 rfl (lv_at hl 0 rfl) ?_
              refine b_get hx hb hts in_X3 hown hW 0 0 3 18 rfl mW_0 rfl (by decide) ⟨rfl, rfl, rfl⟩ (hts _ q1477) mW_g18 dX3_look_134 ?_
              refine b_iald hx hb hW 0 15 rfl mW_15 h51 dX3_look_137 ?_
              obtain ⟨r54, hc54, hf⟩ := o_b1s hf
              have hp54 : List.Perm [mW g adM kM tM M49] ([] ++ [mW g adM kM tM M49]) := b_perm [] [0] 1 rfl rfl rfl rfl
              refine b_call0 ⟨rfl, rfl⟩ (va_runS (As := [.int (M49.1 15 (ix (M49.1 0 6)))]) (rest := []) ⟨hx, hb, hml, hown, hts⟩ (m_X3_isDigit l D g H.size (M49.1 15 (ix (M49.1 0 6))) r54 hc54) (va_cwS 1 hts (lw_S q1725 q1726 q79 q1727) rfl rfl rfl (by decide +kernel) ⟨Nat.le_of_ble_eq_true rfl, Nat.le_of_ble_eq_true rfl⟩) (b_preS hW hp54) rfl rfl hl.1 rfl (lv_room (Nat.le_of_ble_eq_true rfl)) dX3_look_138 ⟨Nat.le_of_ble_eq_true rfl, Nat.le_of_ble_eq_true rfl⟩) hW hp54 (fun _ _ H locs hW => ?_)
              have hW : bW D g A s H locs [mW g adM kM tM M49] := hW
              refine lv_if_eq (tgt := 230) hx hb dX3_look_141 (by decide) (fun c55 => ?_) (fun c55 => ?_)
              · have hf := o_t hf c55
                refine lv_aload_n hx hb dX3_look_230 rfl (lv_at hl 0 rfl) ?_
                refine lv_aload_n hx hb dX3_look_231 rfl (lv_at hl 0 rfl) ?_
                refine b_get hx hb hts in_X3 hown hW 0 0 3 6 rfl mW_0 rfl (by decide) ⟨rfl, rfl, rfl⟩ (hts _ q1465) mW_g6 dX3_look_232 ?_
                refine lv_aload_n hx hb dX3_look_235 rfl (lv_at hl 0 rfl) ?_
                refine b_get hx hb hts in_X3 hown hW 0 0 3 18 rfl mW_0 rfl (by decide) ⟨rfl, rfl, rfl⟩ (hts _ q1477) mW_g18 dX3_look_236 ?_
                refine b_iald hx hb hW 0 15 rfl mW_15 h51 dX3_look_239 ?_
                refine lv_bipush (v := 59) hx hb dX3_look_240 (by decide) ?_
                refine lv_icmp_ne (tgt := 249) hx hb dX3_look_242 (by decide) (fun c56 => ?_) (fun c56 => ?_)
                · have hf := o_f hf c56
                  refine lv_iconst (v := 4) hx hb dX3_look_249 (by decide) ?_
                  obtain ⟨M57, eM57, hf⟩ := o_ls hf
                  refine b_put hx hb hts in_X3 tyX3 tyX3_ok nmX3 hown hW 0 0 3 19 rfl mW_0 (mW_p19 eM57) rfl rfl (by decide) ⟨rfl, rfl, rfl⟩ (hts _ q1478) rfl (ty := .int) rfl rfl rfl (by rw [mW_l]; decide) dX3_look_250 (fun H locs hW => ?_)
                  have hW : bW D g A s H locs [mW g adM kM tM M57] := hW
                  refine lv_aload_n hx hb dX3_look_253 rfl (lv_at hl 0 rfl) ?_
                  refine lv_dup hx hb dX3_look_254 rfl ?_
                  refine b_get hx hb hts in_X3 hown hW 0 0 3 18 rfl mW_0 rfl (by decide) ⟨rfl, rfl, rfl⟩ (hts _ q1477) mW_g18 dX3_look_255 ?_
                  refine lv_iconst (v := 1) hx hb dX3_look_258 (by decide) ?_
                  refine lv_iadd hx hb dX3_look_259 ?_
                  obtain ⟨v58, ev58, hf⟩ := o_ls hf
                  refine b_topi ev58 ?_
                  obtain ⟨M59, eM59, hf⟩ := o_ls hf
                  refine b_put hx hb hts in_X3 tyX3 tyX3_ok nmX3 hown hW 0 0 3 18 rfl mW_0 (mW_p18 eM59) rfl rfl (by decide) ⟨rfl, rfl, rfl⟩ (hts _ q1477) rfl (ty := .int) rfl rfl rfl (by rw [mW_l]; decide) dX3_look_260 (fun H locs hW => ?_)
                  have hW : bW D g A s H locs [mW g adM kM tM M59] := hW
                  cases hf
                  exact b_vret hx hb hr hlk hE hW () rfl trivial rfl dX3_look_263
                · have hf := o_t hf c56
                  refine lv_iconst (v := 3) hx hb dX3_look_245 (by decide) ?_
                  refine lv_goto (tgt := 250) hx hb dX3_look_246 (by decide) ?_
                  obtain ⟨M60, eM60, hf⟩ := o_ls hf
                  refine b_put hx hb hts in_X3 tyX3 tyX3_ok nmX3 hown hW 0 0 3 19 rfl mW_0 (mW_p19 eM60) rfl rfl (by decide) ⟨rfl, rfl, rfl⟩ (hts _ q1478) rfl (ty := .int) rfl rfl rfl (by rw [mW_l]; decide) dX3_look_250 (fun H locs hW => ?_)
                  have hW : bW D g A s H locs [mW g adM kM tM M60] := hW
                  refine lv_aload_n hx hb dX3_look_253 rfl (lv_at hl 0 rfl) ?_
                  refine lv_dup hx hb dX3_look_254 rfl ?_
                  refine b_get hx hb hts in_X3 hown hW 0 0 3 18 rfl mW_0 rfl (by decide) ⟨rfl, rfl, rfl⟩ (hts _ q1477) mW_g18 dX3_look_255 ?_
                  refine lv_iconst (v := 1) hx hb dX3_look_258 (by decide) ?_
                  refine lv_iadd hx hb dX3_look_259 ?_
                  obtain ⟨v61, ev61, hf⟩ := o_ls hf
                  refine b_topi ev61 ?_
                  obtain ⟨M62, eM62, hf⟩ := o_ls hf
                  refine b_put hx hb hts in_X3 tyX3 tyX3_ok nmX3 hown hW 0 0 3 18 rfl mW_0 (mW_p18 eM62) rfl rfl (by decide) ⟨rfl, rfl, rfl⟩ (hts _ q1477) rfl (ty := .int) rfl rfl rfl (by rw [mW_l]; decide) dX3_look_260 (fun H locs hW => ?_)
                  have hW : bW D g A s H locs [mW g adM kM tM M62] := hW
                  cases hf
                  exact b_vret hx hb hr hlk hE hW () rfl trivial rfl dX3_look_263
              · have hf := o_f hf c55
                refine lv_aload_n hx hb dX3_look_144 rfl (lv_at hl 0 rfl) ?_
                refine lv_iconst (v := 2) hx hb dX3_look_145 (by decide) ?_
                obtain ⟨M63, eM63, hf⟩ := o_ls hf
                refine b_put hx hb hts in_X3 tyX3 tyX3_ok nmX3 hown hW 0 0 3 19 rfl mW_0 (mW_p19 eM63) rfl rfl (by decide) ⟨rfl, rfl, rfl⟩ (hts _ q1478) rfl (ty := .int) rfl rfl rfl (by rw [mW_l]; decide) dX3_look_146 (fun H locs hW => ?_)
                have hW : bW D g A s H locs [mW g adM kM tM M63] := hW
                obtain ⟨stp64, est64, hf⟩ := o_ln hf
                have L64 : ∀ (n : Nat) (M65 : BC) (H : Heap) (locs : List Loc) (ls : Array Slot), bW D g A s H locs [mW g adM kM tM M65] → lv_has ls 1 [(0, .ref (adM 0))] → o_lp stp64 n M65 = some MO → W p l e rm_X3_look s m args below meth c H locs 0 0 Q (F0 m 149 ls []) := by
                  intro n64
                  induction n64 with
                  | zero => intro M65 H locs ls hW hl hf; exact (o_lz hf).elim
                  | succ n64 ih64 =>
                    intro M65 H locs ls hW hl hf
                    have hf := o_lu est64 hf
                    rw [f_X3_look_L149_64] at hf
                    refine lv_aload_n hx hb dX3_look_149 rfl (lv_at hl 0 rfl) ?_
                    refine b_get hx hb hts in_X3 hown hW 0 0 3 18 rfl mW_0 rfl (by decide) ⟨rfl, rfl, rfl⟩ (hts _ q1477) mW_g18 dX3_look_150 ?_
                    refine lv_aload_n hx hb dX3_look_153 rfl (lv_at hl 0 rfl) ?_
                    refine b_get hx hb hts in_X3 hown hW 0 0 3 7 rfl mW_0 rfl (by decide) ⟨rfl, rfl, rfl⟩ (hts _ q1466) mW_g7 dX3_look_154 ?_
                    refine lv_icmp_ge (tgt := 263) hx hb dX3_look_157 (by decide) (fun c66 => ?_) (fun c66 => ?_)
                    · have hf := o_t hf c66
                      cases hf
                      exact b_vret hx hb hr hlk hE hW () rfl trivial rfl dX3_look_263
                    · have hf := o_f hf c66
                      refine lv_aload_n hx hb dX3_look_160 rfl (lv_at hl 0 rfl) ?_
                      refine b_get hx hb hts in_X3 hown hW 0 0 3 6 rfl mW_0 rfl (by decide) ⟨rfl, rfl, rfl⟩ (hts _ q1465) mW_g6 dX3_look_161 ?_
                      refine lv_aload_n hx hb dX3_look_164 rfl (lv_at hl 0 rfl) ?_
                      refine b_get hx hb hts in_X3 hown hW 0 0 3 18 rfl mW_0 rfl (by decide) ⟨rfl, rfl, rfl⟩ (hts _ q1477) mW_g18 dX3_look_165 ?_
                      obtain ⟨h67, hf⟩ := o_cs hf
                      refine b_iald hx hb hW 0 15 rfl mW_15 h67 dX3_look_168 ?_
                      obtain ⟨r68, hc68, hf⟩ := o_b1s hf
                      have hp68 : List.Perm [mW g adM kM tM M65] ([] ++ [mW g adM kM tM M65]) := b_perm [] [0] 1 rfl rfl rfl rfl
                      refine b_call0 ⟨rfl, rfl⟩ (va_runS (As := [.int (M65.1 15 (ix (M65.1 0 6)))]) (rest := []) ⟨hx, hb, hml, hown, hts⟩ (m_X3_isDigit l D g H.size (M65.1 15 (ix (M65.1 0 6))) r68 hc68) (va_cwS 1 hts (lw_S q1725 q1726 q79 q1727) rfl rfl rfl (by decide +kernel) ⟨Nat.le_of_ble_eq_true rfl, Nat.le_of_ble_eq_true rfl⟩) (b_preS hW hp68) rfl rfl hl.1 rfl (lv_room (Nat.le_of_ble_eq_true rfl)) dX3_look_169 ⟨Nat.le_of_ble_eq_true rfl, Nat.le_of_ble_eq_true rfl⟩) hW hp68 (fun _ _ H locs hW => ?_)
                      have hW : bW D g A s H locs [mW g adM kM tM M65] := hW
                      refine lv_if_eq (tgt := 263) hx hb dX3_look_172 (by decide) (fun c69 => ?_) (fun c69 => ?_)
                      · have hf := o_t hf c69
                        cases hf
                        exact b_vret hx hb hr hlk hE hW () rfl trivial rfl dX3_look_263
                      · have hf := o_f hf c69
                        refine lv_aload_n hx hb dX3_look_175 rfl (lv_at hl 0 rfl) ?_
                        refine lv_aload_n hx hb dX3_look_176 rfl (lv_at hl 0 rfl) ?_
                        refine b_get hx hb hts in_X3 hown hW 0 0 3 18 rfl mW_0 rfl (by decide) ⟨rfl, rfl, rfl⟩ (hts _ q1477) mW_g18 dX3_look_177 ?_
                        refine lv_aload_n hx hb dX3_look_180 rfl (lv_at hl 0 rfl) ?_
                        refine b_get hx hb hts in_X3 hown hW 0 0 3 20 rfl mW_0 rfl (by decide) ⟨rfl, rfl, rfl⟩ (hts _ q1479) mW_g20 dX3_look_181 ?_
                        refine lv_isub hx hb dX3_look_184 ?_
                        refine lv_iconst (v := 3) hx hb dX3_look_185 (by decide) ?_
                        refine lv_icmp_ge (tgt := 212) hx hb dX3_look_186 (by decide) (fun c70 => ?_) (fun c70 => ?_)
                        · have hf := o_t hf c70
                          refine lv_ldc (v := 100000) hx hb hown (hts _ q1728) dX3_look_212 ?_
                          obtain ⟨M71, eM71, hf⟩ := o_ls hf
                          refine b_put hx hb hts in_X3 tyX3 tyX3_ok nmX3 hown hW 0 0 3 21 rfl mW_0 (mW_p21 eM71) rfl rfl (by decide) ⟨rfl, rfl, rfl⟩ (hts _ q1480) rfl (ty := .int) rfl rfl rfl (by rw [mW_l]; decide) dX3_look_214 (fun H locs hW => ?_)
                          have hW : bW D g A s H locs [mW g adM kM tM M71] := hW
                          refine lv_aload_n hx hb dX3_look_217 rfl (lv_at hl 0 rfl) ?_
                          refine lv_dup hx hb dX3_look_218 rfl ?_
                          refine b_get hx hb hts in_X3 hown hW 0 0 3 18 rfl mW_0 rfl (by decide) ⟨rfl, rfl, rfl⟩ (hts _ q1477) mW_g18 dX3_look_219 ?_
                          refine lv_iconst (v := 1) hx hb dX3_look_222 (by decide) ?_
                          refine lv_iadd hx hb dX3_look_223 ?_
                          obtain ⟨v72, ev72, hf⟩ := o_ls hf
                          refine b_topi ev72 ?_
                          obtain ⟨M73, eM73, hf⟩ := o_ls hf
                          refine b_put hx hb hts in_X3 tyX3 tyX3_ok nmX3 hown hW 0 0 3 18 rfl mW_0 (mW_p18 eM73) rfl rfl (by decide) ⟨rfl, rfl, rfl⟩ (hts _ q1477) rfl (ty := .int) rfl rfl rfl (by rw [mW_l]; decide) dX3_look_224 (fun H locs hW => ?_)
                          have hW : bW D g A s H locs [mW g adM kM tM M73] := hW
                          refine lv_goto (tgt := 149) hx hb dX3_look_227 (by decide) ?_
                          exact ih64 _ _ _ _ hW (lv_sub hl [0] rfl) hf
                        · have hf := o_f hf c70
                          refine lv_aload_n hx hb dX3_look_189 rfl (lv_at hl 0 rfl) ?_
                          refine b_get hx hb hts in_X3 hown hW 0 0 3 21 rfl mW_0 rfl (by decide) ⟨rfl, rfl, rfl⟩ (hts _ q1480) mW_g21 dX3_look_190 ?_
                          refine lv_bipush (v := 10) hx hb dX3_look_193 (by decide) ?_
                          refine lv_imul hx hb dX3_look_195 ?_
                          refine lv_aload_n hx hb dX3_look_196 rfl (lv_at hl 0 rfl) ?_
                          refine b_get hx hb hts in_X3 hown hW 0 0 3 6 rfl mW_0 rfl (by decide) ⟨rfl, rfl, rfl⟩ (hts _ q1465) mW_g6 dX3_look_197 ?_
                          refine lv_aload_n hx hb dX3_look_200 rfl (lv_at hl 0 rfl) ?_
                          refine b_get hx hb hts in_X3 hown hW 0 0 3 18 rfl mW_0 rfl (by decide) ⟨rfl, rfl, rfl⟩ (hts _ q1477) mW_g18 dX3_look_201 ?_
                          refine b_iald hx hb hW 0 15 rfl mW_15 h67 dX3_look_204 ?_
                          refine lv_iadd hx hb dX3_look_205 ?_
                          refine lv_bipush (v := 48) hx hb dX3_look_206 (by decide) ?_
                          refine lv_isub hx hb dX3_look_208 ?_
                          refine lv_goto (tgt := 214) hx hb dX3_look_209 (by decide) ?_
                          obtain ⟨v74, ev74, hf⟩ := o_ls hf
                          refine b_topi ev74 ?_
                          obtain ⟨M75, eM75, hf⟩ := o_ls hf
                          refine b_put hx hb hts in_X3 tyX3 tyX3_ok nmX3 hown hW 0 0 3 21 rfl mW_0 (mW_p21 eM75) rfl rfl (by decide) ⟨rfl, rfl, rfl⟩ (hts _ q1480) rfl (ty := .int) rfl rfl rfl (by rw [mW_l]; decide) dX3_look_214 (fun H locs hW => ?_)
                          have hW : bW D g A s H locs [mW g adM kM tM M75] := hW
                          refine lv_aload_n hx hb dX3_look_217 rfl (lv_at hl 0 rfl) ?_
                          refine lv_dup hx hb dX3_look_218 rfl ?_
                          refine b_get hx hb hts in_X3 hown hW 0 0 3 18 rfl mW_0 rfl (by decide) ⟨rfl, rfl, rfl⟩ (hts _ q1477) mW_g18 dX3_look_219 ?_
                          refine lv_iconst (v := 1) hx hb dX3_look_222 (by decide) ?_
                          refine lv_iadd hx hb dX3_look_223 ?_
                          obtain ⟨v76, ev76, hf⟩ := o_ls hf
                          refine b_topi ev76 ?_
                          obtain ⟨M77, eM77, hf⟩ := o_ls hf
                          refine b_put hx hb hts in_X3 tyX3 tyX3_ok nmX3 hown hW 0 0 3 18 rfl mW_0 (mW_p18 eM77) rfl rfl (by decide) ⟨rfl, rfl, rfl⟩ (hts _ q1477) rfl (ty := .int) rfl rfl rfl (by rw [mW_l]; decide) dX3_look_224 (fun H locs hW => ?_)
                          have hW : bW D g A s H locs [mW g adM kM tM M77] := hW
                          refine lv_goto (tgt := 149) hx hb dX3_look_227 (by decide) ?_
                          exact ih64 _ _ _ _ hW (lv_sub hl [0] rfl) hf
                exact L64 _ _ _ _ _ hW (lv_sub hl [0] rfl) hf
            · have hf := o_f hf c53
              refine lv_aload_n hx hb dX3_look_85 rfl (lv_at hl 0 rfl) ?_
              refine lv_iconst (v := 1) hx hb dX3_look_86 (by decide) ?_
              obtain ⟨M78, eM78, hf⟩ := o_ls hf
              refine b_put hx hb hts in_X3 tyX3 tyX3_ok nmX3 hown hW 0 0 3 19 rfl mW_0 (mW_p19 eM78) rfl rfl (by decide) ⟨rfl, rfl, rfl⟩ (hts _ q1478) rfl (ty := .int) rfl rfl rfl (by rw [mW_l]; decide) dX3_look_87 (fun H locs hW => ?_)
              have hW : bW D g A s H locs [mW g adM kM tM M78] := hW
              obtain ⟨stp79, est79, hf⟩ := o_ln hf
              have L79 : ∀ (n : Nat) (M80 : BC) (H : Heap) (locs : List Loc) (ls : Array Slot), bW D g A s H locs [mW g adM kM tM M80] → lv_has ls 1 [(0, .ref (adM 0))] → o_lp stp79 n M80 = some MO → W p l e rm_X3_look s m args below meth c H locs 0 0 Q (F0 m 90 ls []) := by
                intro n79
                induction n79 with
                | zero => intro M80 H locs ls hW hl hf; exact (o_lz hf).elim
                | succ n79 ih79 =>
                  intro M80 H locs ls hW hl hf
                  have hf := o_lu est79 hf
                  rw [f_X3_look_L90_79] at hf
                  refine lv_aload_n hx hb dX3_look_90 rfl (lv_at hl 0 rfl) ?_
                  refine b_get hx hb hts in_X3 hown hW 0 0 3 18 rfl mW_0 rfl (by decide) ⟨rfl, rfl, rfl⟩ (hts _ q1477) mW_g18 dX3_look_91 ?_
                  refine lv_aload_n hx hb dX3_look_94 rfl (lv_at hl 0 rfl) ?_
                  refine b_get hx hb hts in_X3 hown hW 0 0 3 7 rfl mW_0 rfl (by decide) ⟨rfl, rfl, rfl⟩ (hts _ q1466) mW_g7 dX3_look_95 ?_
                  refine lv_icmp_ge (tgt := 263) hx hb dX3_look_98 (by decide) (fun c81 => ?_) (fun c81 => ?_)
                  · have hf := o_t hf c81
                    cases hf
                    exact b_vret hx hb hr hlk hE hW () rfl trivial rfl dX3_look_263
                  · have hf := o_f hf c81
                    refine lv_aload_n hx hb dX3_look_101 rfl (lv_at hl 0 rfl) ?_
                    refine b_get hx hb hts in_X3 hown hW 0 0 3 6 rfl mW_0 rfl (by decide) ⟨rfl, rfl, rfl⟩ (hts _ q1465) mW_g6 dX3_look_102 ?_
                    refine lv_aload_n hx hb dX3_look_105 rfl (lv_at hl 0 rfl) ?_
                    refine b_get hx hb hts in_X3 hown hW 0 0 3 18 rfl mW_0 rfl (by decide) ⟨rfl, rfl, rfl⟩ (hts _ q1477) mW_g18 dX3_look_106 ?_
                    obtain ⟨h82, hf⟩ := o_cs hf
                    refine b_iald hx hb hW 0 15 rfl mW_15 h82 dX3_look_109 ?_
                    obtain ⟨r83, hc83, hf⟩ := o_b1s hf
                    have hp83 : List.Perm [mW g adM kM tM M80] ([] ++ [mW g adM kM tM M80]) := b_perm [] [0] 1 rfl rfl rfl rfl
                    refine b_call0 ⟨rfl, rfl⟩ (va_runS (As := [.int (M80.1 15 (ix (M80.1 0 6)))]) (rest := []) ⟨hx, hb, hml, hown, hts⟩ (m_X3_isLetter l D g H.size (M80.1 15 (ix (M80.1 0 6))) r83 hc83) (va_cwS 1 hts (lw_S q1722 q1723 q79 q1724) rfl rfl rfl (by decide +kernel) ⟨Nat.le_of_ble_eq_true rfl, Nat.le_of_ble_eq_true rfl⟩) (b_preS hW hp83) rfl rfl hl.1 rfl (lv_room (Nat.le_of_ble_eq_true rfl)) dX3_look_110 ⟨Nat.le_of_ble_eq_true rfl, Nat.le_of_ble_eq_true rfl⟩) hW hp83 (fun _ _ H locs hW => ?_)
                    have hW : bW D g A s H locs [mW g adM kM tM M80] := hW
                    refine lv_if_eq (tgt := 263) hx hb dX3_look_113 (by decide) (fun c84 => ?_) (fun c84 => ?_)
                    · have hf := o_t hf c84
                      cases hf
                      exact b_vret hx hb hr hlk hE hW () rfl trivial rfl dX3_look_263
                    · have hf := o_f hf c84
                      refine lv_aload_n hx hb dX3_look_116 rfl (lv_at hl 0 rfl) ?_
                      refine lv_dup hx hb dX3_look_117 rfl ?_
                      refine b_get hx hb hts in_X3 hown hW 0 0 3 18 rfl mW_0 rfl (by decide) ⟨rfl, rfl, rfl⟩ (hts _ q1477) mW_g18 dX3_look_118 ?_
                      refine lv_iconst (v := 1) hx hb dX3_look_121 (by decide) ?_
                      refine lv_iadd hx hb dX3_look_122 ?_
                      obtain ⟨v85, ev85, hf⟩ := o_ls hf
                      refine b_topi ev85 ?_
                      obtain ⟨M86, eM86, hf⟩ := o_ls hf
                      refine b_put hx hb hts in_X3 tyX3 tyX3_ok nmX3 hown hW 0 0 3 18 rfl mW_0 (mW_p18 eM86) rfl rfl (by decide) ⟨rfl, rfl, rfl⟩ (hts _ q1477) rfl (ty := .int) rfl rfl rfl (by rw [mW_l]; decide) dX3_look_123 (fun H locs hW => ?_)
                      have hW : bW D g A s H locs [mW g adM kM tM M86] := hW
                      refine lv_goto (tgt := 90) hx hb dX3_look_126 (by decide) ?_
                      exact ih79 _ _ _ _ hW (lv_sub hl [0] rfl) hf
              exact L79 _ _ _ _ _ hW (lv_sub hl [0] rfl) hf
          · have hf := o_t hf c50
            refine lv_aload_n hx hb dX3_look_62 rfl (lv_at hl 0 rfl) ?_
            refine lv_iconst (v := 0) hx hb dX3_look_63 (by decide) ?_
            obtain ⟨M87, eM87, hf⟩ := o_ls hf
            refine b_put hx hb hts in_X3 tyX3 tyX3_ok nmX3 hown hW 0 0 3 19 rfl mW_0 (mW_p19 eM87) rfl rfl (by decide) ⟨rfl, rfl, rfl⟩ (hts _ q1478) rfl (ty := .int) rfl rfl rfl (by rw [mW_l]; decide) dX3_look_64 (fun H locs hW => ?_)
            have hW : bW D g A s H locs [mW g adM kM tM M87] := hW
            refine lv_goto (tgt := 263) hx hb dX3_look_67 (by decide) ?_
            cases hf
            exact b_vret hx hb hr hlk hE hW () rfl trivial rfl dX3_look_263
        · have hf := o_t hf c46
          refine lv_aload_n hx hb dX3_look_25 rfl (lv_at hl 0 rfl) ?_
          refine lv_dup hx hb dX3_look_26 rfl ?_
          refine b_get hx hb hts in_X3 hown hW 0 0 3 18 rfl mW_0 rfl (by decide) ⟨rfl, rfl, rfl⟩ (hts _ q1477) mW_g18 dX3_look_27 ?_
          refine lv_iconst (v := 1) hx hb dX3_look_30 (by decide) ?_
          refine lv_iadd hx hb dX3_look_31 ?_
          obtain ⟨v88, ev88, hf⟩ := o_ls hf
          refine b_topi ev88 ?_
          obtain ⟨M89, eM89, hf⟩ := o_ls hf
          refine b_put hx hb hts in_X3 tyX3 tyX3_ok nmX3 hown hW 0 0 3 18 rfl mW_0 (mW_p18 eM89) rfl rfl (by decide) ⟨rfl, rfl, rfl⟩ (hts _ q1477) rfl (ty := .int) rfl rfl rfl (by rw [mW_l]; decide) dX3_look_32 (fun H locs hW => ?_)
          have hW : bW D g A s H locs [mW g adM kM tM M89] := hW
          refine lv_goto (tgt := 0) hx hb dX3_look_35 (by decide) ?_
          exact ih1 _ _ _ _ hW (lv_sub hl [0] rfl) hf
  exact L1 _ _ _ _ _ hW (lv_sub hl [0] rfl) hf
def f_X3_wrong (M : BC) : Option (Int32 × BC) :=
 o_lt (M.1 0 8) fun (v1 : Int32) =>
 o_lt (bI M 0 (upd (M.1 0) 10 v1)) fun (M2 : BC) =>
 some (0, M2)
abbrev rm_X3_wrong : Room := { frames := 0, cells := 0, slots := 0, locals := 0 }
set_option maxHeartbeats 4000000 in
set_option maxRecDepth 100000 in
theorem m_X3_wrong (l : Launch) (D : va_G) (g : Nat → ClassId) (sz : Nat) (adM : Nat → Nat) (kM : Option Nat) (tM : Option Nat) (M : BC) (rO : Int32) (MO : BC) (hf : f_X3_wrong M = some (rO, MO)) : bMet (S := Unit) l yX3_wrong (ws_ yX3_wrong cX3_wrong 1 (some .boolean)) rm_X3_wrong D g sz [.ref (adM 0)] [mW g adM kM tM M] (fun _ => True) (fun _ => some (.int rO)) (fun _ => [mW g adM kM tM MO]) := by
  refine b_met (by decide) (Nat.le_of_ble_eq_true rfl) ?_
  intro p e s m args below meth c A Q ls hx hb hml hr hlk hown hname hts hE hl hW
  revert hW; generalize s.heap = H; intro hW
  have hl : lv_has ls 1 [(0, .ref (adM 0))] := hl
  rw [f_X3_wrong] at hf
  refine lv_aload_n hx hb dX3_wrong_0 rfl (lv_at hl 0 rfl) ?_
  refine lv_aload_n hx hb dX3_wrong_1 rfl (lv_at hl 0 rfl) ?_
  refine b_get hx hb hts in_X3 hown hW 0 0 3 20 rfl mW_0 rfl (by decide) ⟨rfl, rfl, rfl⟩ (hts _ q1479) mW_g20 dX3_wrong_2 ?_
  obtain ⟨v1, ev1, hf⟩ := o_ls hf
  refine b_topi ev1 ?_
  obtain ⟨M2, eM2, hf⟩ := o_ls hf
  refine b_put hx hb hts in_X3 tyX3 tyX3_ok nmX3 hown hW 0 0 3 22 rfl mW_0 (mW_p22 eM2) rfl rfl (by decide) ⟨rfl, rfl, rfl⟩ (hts _ q1481) rfl (ty := .int) rfl rfl rfl (by rw [mW_l]; decide) dX3_wrong_5 (fun H locs hW => ?_)
  have hW : bW D g A s H locs [mW g adM kM tM M2] := hW
  refine lv_iconst (v := 0) hx hb dX3_wrong_8 (by decide) ?_
  cases hf
  exact b_zret hx hb hr hlk hE hW () rfl trivial rfl (by decide) dX3_wrong_9
def f_X3_number (fu : Nat) (M : BC) (x1 : Int32) (x2 : Int32) (x3 : Int32) : Option (Int32 × BC) :=
 (if (M.1 0 7) = 2 then
 o_b1 (f_X3_in ((M.1 0 9).toInt64) x2.toInt64 x3.toInt64) fun (r5 : Int32) =>
 (if r5 = 0 then
 o_b2 (f_X3_wrong M) fun (r11 : Int32) (M12 : BC) =>
 o_ck (decide (r11 = 0) || decide (r11 = 1)) (some (r11, M12))
 else
 o_lt (M.1 0 9) fun (v7 : Int32) =>
 o_ck (inB x1 3) (o_lt (bI M 31 (upd (M.1 31) (ix x1) v7)) fun (M9 : BC) =>
 o_b1 (f_X3_look fu M9) fun (M10 : BC) =>
 some (1, M10)))
 else
 o_b2 (f_X3_wrong M) fun (r2 : Int32) (M3 : BC) =>
 o_ck (decide (r2 = 0) || decide (r2 = 1)) (some (r2, M3)))
abbrev rm_X3_number : Room := { frames := 2, cells := 0, slots := 0, locals := 40 }
set_option maxHeartbeats 4000000 in
set_option maxRecDepth 100000 in
theorem m_X3_number (l : Launch) (D : va_G) (g : Nat → ClassId) (sz : Nat) (adM : Nat → Nat) (kM : Option Nat) (tM : Option Nat) (fu : Nat) (M : BC) (x1 : Int32) (x2 : Int32) (x3 : Int32) (rO : Int32) (MO : BC) (hf : f_X3_number fu M x1 x2 x3 = some (rO, MO)) : bMet (S := Unit) l yX3_number (ws_ yX3_number cX3_number 4 (some .boolean)) rm_X3_number D g sz [.ref (adM 0), .int x1, .int x2, .int x3] [mW g adM kM tM M] (fun _ => True) (fun _ => some (.int rO)) (fun _ => [mW g adM kM tM MO]) := by
  refine b_met (by decide) (Nat.le_of_ble_eq_true rfl) ?_
  intro p e s m args below meth c A Q ls hx hb hml hr hlk hown hname hts hE hl hW
  revert hW; generalize s.heap = H; intro hW
  have hl : lv_has ls 4 [(0, .ref (adM 0)), (1, .int x1), (2, .int x2), (3, .int x3)] := hl
  rw [f_X3_number] at hf
  refine lv_aload_n hx hb dX3_number_0 rfl (lv_at hl 0 rfl) ?_
  refine b_get hx hb hts in_X3 hown hW 0 0 3 19 rfl mW_0 rfl (by decide) ⟨rfl, rfl, rfl⟩ (hts _ q1478) mW_g19 dX3_number_1 ?_
  refine lv_iconst (v := 2) hx hb dX3_number_4 (by decide) ?_
  refine lv_icmp_ne (tgt := 23) hx hb dX3_number_5 (by decide) (fun c1 => ?_) (fun c1 => ?_)
  · have hf := o_f hf c1
    refine lv_aload_n hx hb dX3_number_23 rfl (lv_at hl 0 rfl) ?_
    obtain ⟨r2, M3, hc3, hf⟩ := o_b2s hf
    have hp3 : List.Perm [mW g adM kM tM M] ([mW g adM kM tM M] ++ []) := b_perm [0] [] 1 rfl rfl rfl rfl
    refine b_call0 ⟨rfl, rfl⟩ (va_runV (As := []) (rest := []) ⟨hx, hb, hml, hown, hts⟩ (m_X3_wrong l D g H.size adM kM tM M r2 M3 hc3) (cwV 0 hts (lw_V q1769 q1771 qs54 q79 q1772) rfl rfl rfl (by decide +kernel) ⟨Nat.le_of_ble_eq_true rfl, Nat.le_of_ble_eq_true rfl⟩) (b_preV (pp := 0) (q := 0) hW hp3 rfl mW_0 rfl) rfl rfl hl.1 rfl (lv_room (Nat.le_of_ble_eq_true rfl)) dX3_number_24 ⟨Nat.le_of_ble_eq_true rfl, Nat.le_of_ble_eq_true rfl⟩) hW hp3 (fun _ _ H locs hW => ?_)
    have hW : bW D g A s H locs [mW g adM kM tM M3] := hW
    obtain ⟨h4, hf⟩ := o_cs hf
    cases hf
    exact b_zret hx hb hr hlk hE hW () rfl trivial rfl h4 dX3_number_27
  · have hf := o_t hf c1
    refine lv_aload_n hx hb dX3_number_8 rfl (lv_at hl 0 rfl) ?_
    refine b_get hx hb hts in_X3 hown hW 0 0 3 21 rfl mW_0 rfl (by decide) ⟨rfl, rfl, rfl⟩ (hts _ q1480) mW_g21 dX3_number_9 ?_
    refine lv_i2l hx hb dX3_number_12 rfl ?_
    refine lv_iload_n hx hb dX3_number_13 rfl (lv_at hl 2 rfl) ?_
    refine lv_i2l hx hb dX3_number_14 rfl ?_
    refine lv_iload_n hx hb dX3_number_15 rfl (lv_at hl 3 rfl) ?_
    refine lv_i2l hx hb dX3_number_16 rfl ?_
    obtain ⟨r5, hc5, hf⟩ := o_b1s hf
    have hp5 : List.Perm [mW g adM kM tM M] ([] ++ [mW g adM kM tM M]) := b_perm [] [0] 1 rfl rfl rfl rfl
    refine b_call0 ⟨rfl, rfl⟩ (va_runS (As := [.long ((M.1 0 9).toInt64), .long x2.toInt64, .long x3.toInt64]) (rest := []) ⟨hx, hb, hml, hown, hts⟩ (m_X3_in l D g H.size ((M.1 0 9).toInt64) x2.toInt64 x3.toInt64 r5 hc5) (va_cwS 3 hts (lw_S q1567 q1568 q79 q1569) rfl rfl rfl (by decide +kernel) ⟨Nat.le_of_ble_eq_true rfl, Nat.le_of_ble_eq_true rfl⟩) (b_preS hW hp5) rfl rfl hl.1 rfl (lv_room (Nat.le_of_ble_eq_true rfl)) dX3_number_17 ⟨Nat.le_of_ble_eq_true rfl, Nat.le_of_ble_eq_true rfl⟩) hW hp5 (fun _ _ H locs hW => ?_)
    have hW : bW D g A s H locs [mW g adM kM tM M] := hW
    refine lv_if_ne (tgt := 28) hx hb dX3_number_20 (by decide) (fun c6 => ?_) (fun c6 => ?_)
    · have hf := o_f hf c6
      refine lv_aload_n hx hb dX3_number_28 rfl (lv_at hl 0 rfl) ?_
      refine b_get hx hb hts in_X3 hown hW 0 0 3 23 rfl mW_0 rfl (by decide) ⟨rfl, rfl, rfl⟩ (hts _ q1482) mW_g23 dX3_number_29 ?_
      refine lv_iload_n hx hb dX3_number_32 rfl (lv_at hl 1 rfl) ?_
      refine lv_aload_n hx hb dX3_number_33 rfl (lv_at hl 0 rfl) ?_
      refine b_get hx hb hts in_X3 hown hW 0 0 3 21 rfl mW_0 rfl (by decide) ⟨rfl, rfl, rfl⟩ (hts _ q1480) mW_g21 dX3_number_34 ?_
      obtain ⟨v7, ev7, hf⟩ := o_ls hf
      refine b_topi ev7 ?_
      obtain ⟨h8, hf⟩ := o_cs hf
      obtain ⟨M9, eM9, hf⟩ := o_ls hf
      refine b_iast hx hb hW 0 31 rfl mW_31 (mW_s31 eM9) rfl h8 dX3_number_37 (fun H locs hW => ?_)
      have hW : bW D g A s H locs [mW g adM kM tM M9] := hW
      refine lv_aload_n hx hb dX3_number_38 rfl (lv_at hl 0 rfl) ?_
      obtain ⟨M10, hc10, hf⟩ := o_b1s hf
      have hp10 : List.Perm [mW g adM kM tM M9] ([mW g adM kM tM M9] ++ []) := b_perm [0] [] 1 rfl rfl rfl rfl
      refine b_call0 ⟨rfl, rfl⟩ (va_runV (As := []) (rest := []) ⟨hx, hb, hml, hown, hts⟩ (m_X3_look l D g H.size adM kM tM fu M9 M10 hc10) (cwV 0 hts (lw_V q1718 q1720 qs48 q79 q1721) rfl rfl rfl (by decide +kernel) ⟨Nat.le_of_ble_eq_true rfl, Nat.le_of_ble_eq_true rfl⟩) (b_preV (pp := 0) (q := 0) hW hp10 rfl mW_0 rfl) rfl rfl hl.1 rfl (lv_room (Nat.le_of_ble_eq_true rfl)) dX3_number_39 ⟨Nat.le_of_ble_eq_true rfl, Nat.le_of_ble_eq_true rfl⟩) hW hp10 (fun _ _ H locs hW => ?_)
      have hW : bW D g A s H locs [mW g adM kM tM M10] := hW
      refine lv_iconst (v := 1) hx hb dX3_number_42 (by decide) ?_
      cases hf
      exact b_zret hx hb hr hlk hE hW () rfl trivial rfl (by decide) dX3_number_43
    · have hf := o_t hf c6
      refine lv_aload_n hx hb dX3_number_23 rfl (lv_at hl 0 rfl) ?_
      obtain ⟨r11, M12, hc12, hf⟩ := o_b2s hf
      have hp12 : List.Perm [mW g adM kM tM M] ([mW g adM kM tM M] ++ []) := b_perm [0] [] 1 rfl rfl rfl rfl
      refine b_call0 ⟨rfl, rfl⟩ (va_runV (As := []) (rest := []) ⟨hx, hb, hml, hown, hts⟩ (m_X3_wrong l D g H.size adM kM tM M r11 M12 hc12) (cwV 0 hts (lw_V q1769 q1771 qs54 q79 q1772) rfl rfl rfl (by decide +kernel) ⟨Nat.le_of_ble_eq_true rfl, Nat.le_of_ble_eq_true rfl⟩) (b_preV (pp := 0) (q := 0) hW hp12 rfl mW_0 rfl) rfl rfl hl.1 rfl (lv_room (Nat.le_of_ble_eq_true rfl)) dX3_number_24 ⟨Nat.le_of_ble_eq_true rfl, Nat.le_of_ble_eq_true rfl⟩) hW hp12 (fun _ _ H locs hW => ?_)
      have hW : bW D g A s H locs [mW g adM kM tM M12] := hW
      obtain ⟨h13, hf⟩ := o_cs hf
      cases hf
      exact b_zret hx hb hr hlk hE hW () rfl trivial rfl h13 dX3_number_27
def f_X3_tells (fu : Nat) (M : BC) (x1 : Int32) (x2 : Int32) : Option (Int32 × BC) :=
 o_b1 (f_X3_look fu M) fun (M1 : BC) =>
 o_b2 (f_X3_number fu M1 0 x1 x2) fun (r2 : Int32) (M3 : BC) =>
 o_ck (decide (r2 = 0) || decide (r2 = 1)) (some (r2, M3))
abbrev rm_X3_tells : Room := { frames := 3, cells := 0, slots := 0, locals := 63 }
set_option maxHeartbeats 4000000 in
set_option maxRecDepth 100000 in
theorem m_X3_tells (l : Launch) (D : va_G) (g : Nat → ClassId) (sz : Nat) (adM : Nat → Nat) (kM : Option Nat) (tM : Option Nat) (fu : Nat) (M : BC) (x1 : Int32) (x2 : Int32) (rO : Int32) (MO : BC) (hf : f_X3_tells fu M x1 x2 = some (rO, MO)) : bMet (S := Unit) l yX3_tells (ws_ yX3_tells cX3_tells 3 (some .boolean)) rm_X3_tells D g sz [.ref (adM 0), .int x1, .int x2] [mW g adM kM tM M] (fun _ => True) (fun _ => some (.int rO)) (fun _ => [mW g adM kM tM MO]) := by
  refine b_met (by decide) (Nat.le_of_ble_eq_true rfl) ?_
  intro p e s m args below meth c A Q ls hx hb hml hr hlk hown hname hts hE hl hW
  revert hW; generalize s.heap = H; intro hW
  have hl : lv_has ls 3 [(0, .ref (adM 0)), (1, .int x1), (2, .int x2)] := hl
  rw [f_X3_tells] at hf
  refine lv_aload_n hx hb dX3_tells_0 rfl (lv_at hl 0 rfl) ?_
  obtain ⟨M1, hc1, hf⟩ := o_b1s hf
  have hp1 : List.Perm [mW g adM kM tM M] ([mW g adM kM tM M] ++ []) := b_perm [0] [] 1 rfl rfl rfl rfl
  refine b_call0 ⟨rfl, rfl⟩ (va_runV (As := []) (rest := []) ⟨hx, hb, hml, hown, hts⟩ (m_X3_look l D g H.size adM kM tM fu M M1 hc1) (cwV 0 hts (lw_V q1718 q1720 qs48 q79 q1721) rfl rfl rfl (by decide +kernel) ⟨Nat.le_of_ble_eq_true rfl, Nat.le_of_ble_eq_true rfl⟩) (b_preV (pp := 0) (q := 0) hW hp1 rfl mW_0 rfl) rfl rfl hl.1 rfl (lv_room (Nat.le_of_ble_eq_true rfl)) dX3_tells_1 ⟨Nat.le_of_ble_eq_true rfl, Nat.le_of_ble_eq_true rfl⟩) hW hp1 (fun _ _ H locs hW => ?_)
  have hW : bW D g A s H locs [mW g adM kM tM M1] := hW
  refine lv_aload_n hx hb dX3_tells_4 rfl (lv_at hl 0 rfl) ?_
  refine lv_iconst (v := 0) hx hb dX3_tells_5 (by decide) ?_
  refine lv_iload_n hx hb dX3_tells_6 rfl (lv_at hl 1 rfl) ?_
  refine lv_iload_n hx hb dX3_tells_7 rfl (lv_at hl 2 rfl) ?_
  obtain ⟨r2, M3, hc3, hf⟩ := o_b2s hf
  have hp3 : List.Perm [mW g adM kM tM M1] ([mW g adM kM tM M1] ++ []) := b_perm [0] [] 1 rfl rfl rfl rfl
  refine b_call0 ⟨rfl, rfl⟩ (va_runV (As := [.int 0, .int x1, .int x2]) (rest := []) ⟨hx, hb, hml, hown, hts⟩ (m_X3_number l D g H.size adM kM tM fu M1 0 x1 x2 r2 M3 hc3) (cwV 3 hts (lw_V q1765 q1767 qs53 q79 q1768) rfl rfl rfl (by decide +kernel) ⟨Nat.le_of_ble_eq_true rfl, Nat.le_of_ble_eq_true rfl⟩) (b_preV (pp := 0) (q := 0) hW hp3 rfl mW_0 rfl) rfl rfl hl.1 rfl (lv_room (Nat.le_of_ble_eq_true rfl)) dX3_tells_8 ⟨Nat.le_of_ble_eq_true rfl, Nat.le_of_ble_eq_true rfl⟩) hW hp3 (fun _ _ H locs hW => ?_)
  have hW : bW D g A s H locs [mW g adM kM tM M3] := hW
  obtain ⟨h4, hf⟩ := o_cs hf
  cases hf
  exact b_zret hx hb hr hlk hE hW () rfl trivial rfl h4 dX3_tells_11
def f_X3_letterTold (fu : Nat) (M : BC) : Option (Int32 × BC) :=
 o_b1 (f_X3_look fu M) fun (M1 : BC) =>
 (if (M1.1 0 7) = 2 then
 (if (M1.1 0 1) ≤ (M1.1 0 9) then
 o_b2 (f_X3_number fu M1 0 0 ((M1.1 0 1) - 1)) fun (r11 : Int32) (M12 : BC) =>
 (if r11 = 0 then
 some (0, M12)
 else
 o_b2 (f_X3_number fu M12 1 0 100) fun (r14 : Int32) (M15 : BC) =>
 (if r14 = 0 then
 some (0, M15)
 else
 o_b1 (f_X3_getsLetter M15 (M15.1 31 (ix 0)) (M15.1 31 (ix 1))) fun (M17 : BC) =>
 some (1, M17)))
 else
 o_ck (inB (M1.1 0 9) 6) ((if (M1.1 (18 + ix (M1.1 0 9)) (ix 5)) = 99 then
 o_b2 (f_X3_wrong M1) fun (r27 : Int32) (M28 : BC) =>
 o_ck (decide (r27 = 0) || decide (r27 = 1)) (some (r27, M28))
 else
 o_b2 (f_X3_number fu M1 0 0 ((M1.1 0 1) - 1)) fun (r20 : Int32) (M21 : BC) =>
 (if r20 = 0 then
 some (0, M21)
 else
 o_b2 (f_X3_number fu M21 1 0 100) fun (r23 : Int32) (M24 : BC) =>
 (if r23 = 0 then
 some (0, M24)
 else
 o_b1 (f_X3_getsLetter M24 (M24.1 31 (ix 0)) (M24.1 31 (ix 1))) fun (M26 : BC) =>
 some (1, M26))))))
 else
 o_b2 (f_X3_number fu M1 0 0 ((M1.1 0 1) - 1)) fun (r3 : Int32) (M4 : BC) =>
 (if r3 = 0 then
 some (0, M4)
 else
 o_b2 (f_X3_number fu M4 1 0 100) fun (r6 : Int32) (M7 : BC) =>
 (if r6 = 0 then
 some (0, M7)
 else
 o_b1 (f_X3_getsLetter M7 (M7.1 31 (ix 0)) (M7.1 31 (ix 1))) fun (M9 : BC) =>
 some (1, M9))))
abbrev rm_X3_letterTold : Room := { frames := 3, cells := 0, slots := 0, locals := 63 }
set_option maxHeartbeats 4000000 in
set_option maxRecDepth 100000 in
theorem m_X3_letterTold (l : Launch) (D : va_G) (g : Nat → ClassId) (sz : Nat) (adM : Nat → Nat) (kM : Option Nat) (tM : Option Nat) (fu : Nat) (M : BC) (rO : Int32) (MO : BC) (hf : f_X3_letterTold fu M = some (rO, MO)) : bMet (S := Unit) l yX3_letterTold (ws_ yX3_letterTold cX3_letterTold 1 (some .boolean)) rm_X3_letterTold D g sz [.ref (adM 0)] [mW g adM kM tM M] (fun _ => True) (fun _ => some (.int rO)) (fun _ => [mW g adM kM tM MO]) := by
  refine b_met (by decide) (Nat.le_of_ble_eq_true rfl) ?_
  intro p e s m args below meth c A Q ls hx hb hml hr hlk hown hname hts hE hl hW
  revert hW; generalize s.heap = H; intro hW
  have hl : lv_has ls 1 [(0, .ref (adM 0))] := hl
  rw [f_X3_letterTold] at hf
  refine lv_aload_n hx hb dX3_letterTold_0 rfl (lv_at hl 0 rfl) ?_
  obtain ⟨M1, hc1, hf⟩ := o_b1s hf
  have hp1 : List.Perm [mW g adM kM tM M] ([mW g adM kM tM M] ++ []) := b_perm [0] [] 1 rfl rfl rfl rfl
  refine b_call0 ⟨rfl, rfl⟩ (va_runV (As := []) (rest := []) ⟨hx, hb, hml, hown, hts⟩ (m_X3_look l D g H.size adM kM tM fu M M1 hc1) (cwV 0 hts (lw_V q1718 q1720 qs48 q79 q1721) rfl rfl rfl (by decide +kernel) ⟨Nat.le_of_ble_eq_true rfl, Nat.le_of_ble_eq_true rfl⟩) (b_preV (pp := 0) (q := 0) hW hp1 rfl mW_0 rfl) rfl rfl hl.1 rfl (lv_room (Nat.le_of_ble_eq_true rfl)) dX3_letterTold_1 ⟨Nat.le_of_ble_eq_true rfl, Nat.le_of_ble_eq_true rfl⟩) hW hp1 (fun _ _ H locs hW => ?_)
  have hW : bW D g A s H locs [mW g adM kM tM M1] := hW
  refine lv_aload_n hx hb dX3_letterTold_4 rfl (lv_at hl 0 rfl) ?_
  refine b_get hx hb hts in_X3 hown hW 0 0 3 19 rfl mW_0 rfl (by decide) ⟨rfl, rfl, rfl⟩ (hts _ q1478) mW_g19 dX3_letterTold_5 ?_
  refine lv_iconst (v := 2) hx hb dX3_letterTold_8 (by decide) ?_
  refine lv_icmp_ne (tgt := 44) hx hb dX3_letterTold_9 (by decide) (fun c2 => ?_) (fun c2 => ?_)
  · have hf := o_f hf c2
    refine lv_aload_n hx hb dX3_letterTold_44 rfl (lv_at hl 0 rfl) ?_
    refine lv_iconst (v := 0) hx hb dX3_letterTold_45 (by decide) ?_
    refine lv_iconst (v := 0) hx hb dX3_letterTold_46 (by decide) ?_
    refine lv_aload_n hx hb dX3_letterTold_47 rfl (lv_at hl 0 rfl) ?_
    refine b_get hx hb hts in_X3 hown hW 0 0 3 9 rfl mW_0 rfl (by decide) ⟨rfl, rfl, rfl⟩ (hts _ q1468) mW_g9 dX3_letterTold_48 ?_
    refine lv_iconst (v := 1) hx hb dX3_letterTold_51 (by decide) ?_
    refine lv_isub hx hb dX3_letterTold_52 ?_
    obtain ⟨r3, M4, hc4, hf⟩ := o_b2s hf
    have hp4 : List.Perm [mW g adM kM tM M1] ([mW g adM kM tM M1] ++ []) := b_perm [0] [] 1 rfl rfl rfl rfl
    refine b_call0 ⟨rfl, rfl⟩ (va_runV (As := [.int 0, .int 0, .int ((M1.1 0 1) - 1)]) (rest := []) ⟨hx, hb, hml, hown, hts⟩ (m_X3_number l D g H.size adM kM tM fu M1 0 0 ((M1.1 0 1) - 1) r3 M4 hc4) (cwV 3 hts (lw_V q1765 q1767 qs53 q79 q1768) rfl rfl rfl (by decide +kernel) ⟨Nat.le_of_ble_eq_true rfl, Nat.le_of_ble_eq_true rfl⟩) (b_preV (pp := 0) (q := 0) hW hp4 rfl mW_0 rfl) rfl rfl hl.1 rfl (lv_room (Nat.le_of_ble_eq_true rfl)) dX3_letterTold_53 ⟨Nat.le_of_ble_eq_true rfl, Nat.le_of_ble_eq_true rfl⟩) hW hp4 (fun _ _ H locs hW => ?_)
    have hW : bW D g A s H locs [mW g adM kM tM M4] := hW
    refine lv_if_eq (tgt := 70) hx hb dX3_letterTold_56 (by decide) (fun c5 => ?_) (fun c5 => ?_)
    · have hf := o_t hf c5
      refine lv_iconst (v := 0) hx hb dX3_letterTold_70 (by decide) ?_
      cases hf
      exact b_zret hx hb hr hlk hE hW () rfl trivial rfl (by decide) dX3_letterTold_71
    · have hf := o_f hf c5
      refine lv_aload_n hx hb dX3_letterTold_59 rfl (lv_at hl 0 rfl) ?_
      refine lv_iconst (v := 1) hx hb dX3_letterTold_60 (by decide) ?_
      refine lv_iconst (v := 0) hx hb dX3_letterTold_61 (by decide) ?_
      refine lv_bipush (v := 100) hx hb dX3_letterTold_62 (by decide) ?_
      obtain ⟨r6, M7, hc7, hf⟩ := o_b2s hf
      have hp7 : List.Perm [mW g adM kM tM M4] ([mW g adM kM tM M4] ++ []) := b_perm [0] [] 1 rfl rfl rfl rfl
      refine b_call0 ⟨rfl, rfl⟩ (va_runV (As := [.int 1, .int 0, .int 100]) (rest := []) ⟨hx, hb, hml, hown, hts⟩ (m_X3_number l D g H.size adM kM tM fu M4 1 0 100 r6 M7 hc7) (cwV 3 hts (lw_V q1765 q1767 qs53 q79 q1768) rfl rfl rfl (by decide +kernel) ⟨Nat.le_of_ble_eq_true rfl, Nat.le_of_ble_eq_true rfl⟩) (b_preV (pp := 0) (q := 0) hW hp7 rfl mW_0 rfl) rfl rfl hl.1 rfl (lv_room (Nat.le_of_ble_eq_true rfl)) dX3_letterTold_64 ⟨Nat.le_of_ble_eq_true rfl, Nat.le_of_ble_eq_true rfl⟩) hW hp7 (fun _ _ H locs hW => ?_)
      have hW : bW D g A s H locs [mW g adM kM tM M7] := hW
      refine lv_if_ne (tgt := 72) hx hb dX3_letterTold_67 (by decide) (fun c8 => ?_) (fun c8 => ?_)
      · have hf := o_f hf c8
        refine lv_aload_n hx hb dX3_letterTold_72 rfl (lv_at hl 0 rfl) ?_
        refine lv_aload_n hx hb dX3_letterTold_73 rfl (lv_at hl 0 rfl) ?_
        refine b_get hx hb hts in_X3 hown hW 0 0 3 23 rfl mW_0 rfl (by decide) ⟨rfl, rfl, rfl⟩ (hts _ q1482) mW_g23 dX3_letterTold_74 ?_
        refine lv_iconst (v := 0) hx hb dX3_letterTold_77 (by decide) ?_
        refine b_iald hx hb hW 0 31 rfl mW_31 (by decide) dX3_letterTold_78 ?_
        refine lv_aload_n hx hb dX3_letterTold_79 rfl (lv_at hl 0 rfl) ?_
        refine b_get hx hb hts in_X3 hown hW 0 0 3 23 rfl mW_0 rfl (by decide) ⟨rfl, rfl, rfl⟩ (hts _ q1482) mW_g23 dX3_letterTold_80 ?_
        refine lv_iconst (v := 1) hx hb dX3_letterTold_83 (by decide) ?_
        refine b_iald hx hb hW 0 31 rfl mW_31 (by decide) dX3_letterTold_84 ?_
        obtain ⟨M9, hc9, hf⟩ := o_b1s hf
        have hp9 : List.Perm [mW g adM kM tM M7] ([mW g adM kM tM M7] ++ []) := b_perm [0] [] 1 rfl rfl rfl rfl
        refine b_call0 ⟨rfl, rfl⟩ (va_runV (As := [.int (M7.1 31 (ix 0)), .int (M7.1 31 (ix 1))]) (rest := []) ⟨hx, hb, hml, hown, hts⟩ (m_X3_getsLetter l D g H.size adM kM tM M7 (M7.1 31 (ix 0)) (M7.1 31 (ix 1)) M9 hc9) (cwV 2 hts (lw_V q1676 q1678 qs44 q79 q1679) rfl rfl rfl (by decide +kernel) ⟨Nat.le_of_ble_eq_true rfl, Nat.le_of_ble_eq_true rfl⟩) (b_preV (pp := 0) (q := 0) hW hp9 rfl mW_0 rfl) rfl rfl hl.1 rfl (lv_room (Nat.le_of_ble_eq_true rfl)) dX3_letterTold_85 ⟨Nat.le_of_ble_eq_true rfl, Nat.le_of_ble_eq_true rfl⟩) hW hp9 (fun _ _ H locs hW => ?_)
        have hW : bW D g A s H locs [mW g adM kM tM M9] := hW
        refine lv_iconst (v := 1) hx hb dX3_letterTold_88 (by decide) ?_
        cases hf
        exact b_zret hx hb hr hlk hE hW () rfl trivial rfl (by decide) dX3_letterTold_89
      · have hf := o_t hf c8
        refine lv_iconst (v := 0) hx hb dX3_letterTold_70 (by decide) ?_
        cases hf
        exact b_zret hx hb hr hlk hE hW () rfl trivial rfl (by decide) dX3_letterTold_71
  · have hf := o_t hf c2
    refine lv_aload_n hx hb dX3_letterTold_12 rfl (lv_at hl 0 rfl) ?_
    refine b_get hx hb hts in_X3 hown hW 0 0 3 21 rfl mW_0 rfl (by decide) ⟨rfl, rfl, rfl⟩ (hts _ q1480) mW_g21 dX3_letterTold_13 ?_
    refine lv_aload_n hx hb dX3_letterTold_16 rfl (lv_at hl 0 rfl) ?_
    refine b_get hx hb hts in_X3 hown hW 0 0 3 9 rfl mW_0 rfl (by decide) ⟨rfl, rfl, rfl⟩ (hts _ q1468) mW_g9 dX3_letterTold_17 ?_
    refine lv_icmp_ge (tgt := 44) hx hb dX3_letterTold_20 (by decide) (fun c10 => ?_) (fun c10 => ?_)
    · have hf := o_t hf c10
      refine lv_aload_n hx hb dX3_letterTold_44 rfl (lv_at hl 0 rfl) ?_
      refine lv_iconst (v := 0) hx hb dX3_letterTold_45 (by decide) ?_
      refine lv_iconst (v := 0) hx hb dX3_letterTold_46 (by decide) ?_
      refine lv_aload_n hx hb dX3_letterTold_47 rfl (lv_at hl 0 rfl) ?_
      refine b_get hx hb hts in_X3 hown hW 0 0 3 9 rfl mW_0 rfl (by decide) ⟨rfl, rfl, rfl⟩ (hts _ q1468) mW_g9 dX3_letterTold_48 ?_
      refine lv_iconst (v := 1) hx hb dX3_letterTold_51 (by decide) ?_
      refine lv_isub hx hb dX3_letterTold_52 ?_
      obtain ⟨r11, M12, hc12, hf⟩ := o_b2s hf
      have hp12 : List.Perm [mW g adM kM tM M1] ([mW g adM kM tM M1] ++ []) := b_perm [0] [] 1 rfl rfl rfl rfl
      refine b_call0 ⟨rfl, rfl⟩ (va_runV (As := [.int 0, .int 0, .int ((M1.1 0 1) - 1)]) (rest := []) ⟨hx, hb, hml, hown, hts⟩ (m_X3_number l D g H.size adM kM tM fu M1 0 0 ((M1.1 0 1) - 1) r11 M12 hc12) (cwV 3 hts (lw_V q1765 q1767 qs53 q79 q1768) rfl rfl rfl (by decide +kernel) ⟨Nat.le_of_ble_eq_true rfl, Nat.le_of_ble_eq_true rfl⟩) (b_preV (pp := 0) (q := 0) hW hp12 rfl mW_0 rfl) rfl rfl hl.1 rfl (lv_room (Nat.le_of_ble_eq_true rfl)) dX3_letterTold_53 ⟨Nat.le_of_ble_eq_true rfl, Nat.le_of_ble_eq_true rfl⟩) hW hp12 (fun _ _ H locs hW => ?_)
      have hW : bW D g A s H locs [mW g adM kM tM M12] := hW
      refine lv_if_eq (tgt := 70) hx hb dX3_letterTold_56 (by decide) (fun c13 => ?_) (fun c13 => ?_)
      · have hf := o_t hf c13
        refine lv_iconst (v := 0) hx hb dX3_letterTold_70 (by decide) ?_
        cases hf
        exact b_zret hx hb hr hlk hE hW () rfl trivial rfl (by decide) dX3_letterTold_71
      · have hf := o_f hf c13
        refine lv_aload_n hx hb dX3_letterTold_59 rfl (lv_at hl 0 rfl) ?_
        refine lv_iconst (v := 1) hx hb dX3_letterTold_60 (by decide) ?_
        refine lv_iconst (v := 0) hx hb dX3_letterTold_61 (by decide) ?_
        refine lv_bipush (v := 100) hx hb dX3_letterTold_62 (by decide) ?_
        obtain ⟨r14, M15, hc15, hf⟩ := o_b2s hf
        have hp15 : List.Perm [mW g adM kM tM M12] ([mW g adM kM tM M12] ++ []) := b_perm [0] [] 1 rfl rfl rfl rfl
        refine b_call0 ⟨rfl, rfl⟩ (va_runV (As := [.int 1, .int 0, .int 100]) (rest := []) ⟨hx, hb, hml, hown, hts⟩ (m_X3_number l D g H.size adM kM tM fu M12 1 0 100 r14 M15 hc15) (cwV 3 hts (lw_V q1765 q1767 qs53 q79 q1768) rfl rfl rfl (by decide +kernel) ⟨Nat.le_of_ble_eq_true rfl, Nat.le_of_ble_eq_true rfl⟩) (b_preV (pp := 0) (q := 0) hW hp15 rfl mW_0 rfl) rfl rfl hl.1 rfl (lv_room (Nat.le_of_ble_eq_true rfl)) dX3_letterTold_64 ⟨Nat.le_of_ble_eq_true rfl, Nat.le_of_ble_eq_true rfl⟩) hW hp15 (fun _ _ H locs hW => ?_)
        have hW : bW D g A s H locs [mW g adM kM tM M15] := hW
        refine lv_if_ne (tgt := 72) hx hb dX3_letterTold_67 (by decide) (fun c16 => ?_) (fun c16 => ?_)
        · have hf := o_f hf c16
          refine lv_aload_n hx hb dX3_letterTold_72 rfl (lv_at hl 0 rfl) ?_
          refine lv_aload_n hx hb dX3_letterTold_73 rfl (lv_at hl 0 rfl) ?_
          refine b_get hx hb hts in_X3 hown hW 0 0 3 23 rfl mW_0 rfl (by decide) ⟨rfl, rfl, rfl⟩ (hts _ q1482) mW_g23 dX3_letterTold_74 ?_
          refine lv_iconst (v := 0) hx hb dX3_letterTold_77 (by decide) ?_
          refine b_iald hx hb hW 0 31 rfl mW_31 (by decide) dX3_letterTold_78 ?_
          refine lv_aload_n hx hb dX3_letterTold_79 rfl (lv_at hl 0 rfl) ?_
          refine b_get hx hb hts in_X3 hown hW 0 0 3 23 rfl mW_0 rfl (by decide) ⟨rfl, rfl, rfl⟩ (hts _ q1482) mW_g23 dX3_letterTold_80 ?_
          refine lv_iconst (v := 1) hx hb dX3_letterTold_83 (by decide) ?_
          refine b_iald hx hb hW 0 31 rfl mW_31 (by decide) dX3_letterTold_84 ?_
          obtain ⟨M17, hc17, hf⟩ := o_b1s hf
          have hp17 : List.Perm [mW g adM kM tM M15] ([mW g adM kM tM M15] ++ []) := b_perm [0] [] 1 rfl rfl rfl rfl
          refine b_call0 ⟨rfl, rfl⟩ (va_runV (As := [.int (M15.1 31 (ix 0)), .int (M15.1 31 (ix 1))]) (rest := []) ⟨hx, hb, hml, hown, hts⟩ (m_X3_getsLetter l D g H.size adM kM tM M15 (M15.1 31 (ix 0)) (M15.1 31 (ix 1)) M17 hc17) (cwV 2 hts (lw_V q1676 q1678 qs44 q79 q1679) rfl rfl rfl (by decide +kernel) ⟨Nat.le_of_ble_eq_true rfl, Nat.le_of_ble_eq_true rfl⟩) (b_preV (pp := 0) (q := 0) hW hp17 rfl mW_0 rfl) rfl rfl hl.1 rfl (lv_room (Nat.le_of_ble_eq_true rfl)) dX3_letterTold_85 ⟨Nat.le_of_ble_eq_true rfl, Nat.le_of_ble_eq_true rfl⟩) hW hp17 (fun _ _ H locs hW => ?_)
          have hW : bW D g A s H locs [mW g adM kM tM M17] := hW
          refine lv_iconst (v := 1) hx hb dX3_letterTold_88 (by decide) ?_
          cases hf
          exact b_zret hx hb hr hlk hE hW () rfl trivial rfl (by decide) dX3_letterTold_89
        · have hf := o_t hf c16
          refine lv_iconst (v := 0) hx hb dX3_letterTold_70 (by decide) ?_
          cases hf
          exact b_zret hx hb hr hlk hE hW () rfl trivial rfl (by decide) dX3_letterTold_71
    · have hf := o_f hf c10
      refine lv_aload_n hx hb dX3_letterTold_23 rfl (lv_at hl 0 rfl) ?_
      refine b_get hx hb hts in_X3 hown hW 0 0 3 10 rfl mW_0 rfl (by decide) ⟨rfl, rfl, rfl⟩ (hts _ q1469) mW_g10 dX3_letterTold_24 ?_
      refine lv_aload_n hx hb dX3_letterTold_27 rfl (lv_at hl 0 rfl) ?_
      refine b_get hx hb hts in_X3 hown hW 0 0 3 21 rfl mW_0 rfl (by decide) ⟨rfl, rfl, rfl⟩ (hts _ q1480) mW_g21 dX3_letterTold_28 ?_
      obtain ⟨h18, hf⟩ := o_cs hf
      refine b_agrI hx hb hW 0 17 rfl mW_17 h18 dX3_letterTold_31 ?_
      refine lv_iconst (v := 5) hx hb dX3_letterTold_32 (by decide) ?_
      refine b_iald hx hb hW 0 (18 + ix (M1.1 0 9)) rfl (mW_r18 (inB_lt h18)) (by decide) dX3_letterTold_33 ?_
      refine lv_bipush (v := 99) hx hb dX3_letterTold_34 (by decide) ?_
      refine lv_icmp_ne (tgt := 44) hx hb dX3_letterTold_36 (by decide) (fun c19 => ?_) (fun c19 => ?_)
      · have hf := o_f hf c19
        refine lv_aload_n hx hb dX3_letterTold_44 rfl (lv_at hl 0 rfl) ?_
        refine lv_iconst (v := 0) hx hb dX3_letterTold_45 (by decide) ?_
        refine lv_iconst (v := 0) hx hb dX3_letterTold_46 (by decide) ?_
        refine lv_aload_n hx hb dX3_letterTold_47 rfl (lv_at hl 0 rfl) ?_
        refine b_get hx hb hts in_X3 hown hW 0 0 3 9 rfl mW_0 rfl (by decide) ⟨rfl, rfl, rfl⟩ (hts _ q1468) mW_g9 dX3_letterTold_48 ?_
        refine lv_iconst (v := 1) hx hb dX3_letterTold_51 (by decide) ?_
        refine lv_isub hx hb dX3_letterTold_52 ?_
        obtain ⟨r20, M21, hc21, hf⟩ := o_b2s hf
        have hp21 : List.Perm [mW g adM kM tM M1] ([mW g adM kM tM M1] ++ []) := b_perm [0] [] 1 rfl rfl rfl rfl
        refine b_call0 ⟨rfl, rfl⟩ (va_runV (As := [.int 0, .int 0, .int ((M1.1 0 1) - 1)]) (rest := []) ⟨hx, hb, hml, hown, hts⟩ (m_X3_number l D g H.size adM kM tM fu M1 0 0 ((M1.1 0 1) - 1) r20 M21 hc21) (cwV 3 hts (lw_V q1765 q1767 qs53 q79 q1768) rfl rfl rfl (by decide +kernel) ⟨Nat.le_of_ble_eq_true rfl, Nat.le_of_ble_eq_true rfl⟩) (b_preV (pp := 0) (q := 0) hW hp21 rfl mW_0 rfl) rfl rfl hl.1 rfl (lv_room (Nat.le_of_ble_eq_true rfl)) dX3_letterTold_53 ⟨Nat.le_of_ble_eq_true rfl, Nat.le_of_ble_eq_true rfl⟩) hW hp21 (fun _ _ H locs hW => ?_)
        have hW : bW D g A s H locs [mW g adM kM tM M21] := hW
        refine lv_if_eq (tgt := 70) hx hb dX3_letterTold_56 (by decide) (fun c22 => ?_) (fun c22 => ?_)
        · have hf := o_t hf c22
          refine lv_iconst (v := 0) hx hb dX3_letterTold_70 (by decide) ?_
          cases hf
          exact b_zret hx hb hr hlk hE hW () rfl trivial rfl (by decide) dX3_letterTold_71
        · have hf := o_f hf c22
          refine lv_aload_n hx hb dX3_letterTold_59 rfl (lv_at hl 0 rfl) ?_
          refine lv_iconst (v := 1) hx hb dX3_letterTold_60 (by decide) ?_
          refine lv_iconst (v := 0) hx hb dX3_letterTold_61 (by decide) ?_
          refine lv_bipush (v := 100) hx hb dX3_letterTold_62 (by decide) ?_
          obtain ⟨r23, M24, hc24, hf⟩ := o_b2s hf
          have hp24 : List.Perm [mW g adM kM tM M21] ([mW g adM kM tM M21] ++ []) := b_perm [0] [] 1 rfl rfl rfl rfl
          refine b_call0 ⟨rfl, rfl⟩ (va_runV (As := [.int 1, .int 0, .int 100]) (rest := []) ⟨hx, hb, hml, hown, hts⟩ (m_X3_number l D g H.size adM kM tM fu M21 1 0 100 r23 M24 hc24) (cwV 3 hts (lw_V q1765 q1767 qs53 q79 q1768) rfl rfl rfl (by decide +kernel) ⟨Nat.le_of_ble_eq_true rfl, Nat.le_of_ble_eq_true rfl⟩) (b_preV (pp := 0) (q := 0) hW hp24 rfl mW_0 rfl) rfl rfl hl.1 rfl (lv_room (Nat.le_of_ble_eq_true rfl)) dX3_letterTold_64 ⟨Nat.le_of_ble_eq_true rfl, Nat.le_of_ble_eq_true rfl⟩) hW hp24 (fun _ _ H locs hW => ?_)
          have hW : bW D g A s H locs [mW g adM kM tM M24] := hW
          refine lv_if_ne (tgt := 72) hx hb dX3_letterTold_67 (by decide) (fun c25 => ?_) (fun c25 => ?_)
          · have hf := o_f hf c25
            refine lv_aload_n hx hb dX3_letterTold_72 rfl (lv_at hl 0 rfl) ?_
            refine lv_aload_n hx hb dX3_letterTold_73 rfl (lv_at hl 0 rfl) ?_
            refine b_get hx hb hts in_X3 hown hW 0 0 3 23 rfl mW_0 rfl (by decide) ⟨rfl, rfl, rfl⟩ (hts _ q1482) mW_g23 dX3_letterTold_74 ?_
            refine lv_iconst (v := 0) hx hb dX3_letterTold_77 (by decide) ?_
            refine b_iald hx hb hW 0 31 rfl mW_31 (by decide) dX3_letterTold_78 ?_
            refine lv_aload_n hx hb dX3_letterTold_79 rfl (lv_at hl 0 rfl) ?_
            refine b_get hx hb hts in_X3 hown hW 0 0 3 23 rfl mW_0 rfl (by decide) ⟨rfl, rfl, rfl⟩ (hts _ q1482) mW_g23 dX3_letterTold_80 ?_
            refine lv_iconst (v := 1) hx hb dX3_letterTold_83 (by decide) ?_
            refine b_iald hx hb hW 0 31 rfl mW_31 (by decide) dX3_letterTold_84 ?_
            obtain ⟨M26, hc26, hf⟩ := o_b1s hf
            have hp26 : List.Perm [mW g adM kM tM M24] ([mW g adM kM tM M24] ++ []) := b_perm [0] [] 1 rfl rfl rfl rfl
            refine b_call0 ⟨rfl, rfl⟩ (va_runV (As := [.int (M24.1 31 (ix 0)), .int (M24.1 31 (ix 1))]) (rest := []) ⟨hx, hb, hml, hown, hts⟩ (m_X3_getsLetter l D g H.size adM kM tM M24 (M24.1 31 (ix 0)) (M24.1 31 (ix 1)) M26 hc26) (cwV 2 hts (lw_V q1676 q1678 qs44 q79 q1679) rfl rfl rfl (by decide +kernel) ⟨Nat.le_of_ble_eq_true rfl, Nat.le_of_ble_eq_true rfl⟩) (b_preV (pp := 0) (q := 0) hW hp26 rfl mW_0 rfl) rfl rfl hl.1 rfl (lv_room (Nat.le_of_ble_eq_true rfl)) dX3_letterTold_85 ⟨Nat.le_of_ble_eq_true rfl, Nat.le_of_ble_eq_true rfl⟩) hW hp26 (fun _ _ H locs hW => ?_)
            have hW : bW D g A s H locs [mW g adM kM tM M26] := hW
            refine lv_iconst (v := 1) hx hb dX3_letterTold_88 (by decide) ?_
            cases hf
            exact b_zret hx hb hr hlk hE hW () rfl trivial rfl (by decide) dX3_letterTold_89
          · have hf := o_t hf c25
            refine lv_iconst (v := 0) hx hb dX3_letterTold_70 (by decide) ?_
            cases hf
            exact b_zret hx hb hr hlk hE hW () rfl trivial rfl (by decide) dX3_letterTold_71
      · have hf := o_t hf c19
        refine lv_aload_n hx hb dX3_letterTold_39 rfl (lv_at hl 0 rfl) ?_
        obtain ⟨r27, M28, hc28, hf⟩ := o_b2s hf
        have hp28 : List.Perm [mW g adM kM tM M1] ([mW g adM kM tM M1] ++ []) := b_perm [0] [] 1 rfl rfl rfl rfl
        refine b_call0 ⟨rfl, rfl⟩ (va_runV (As := []) (rest := []) ⟨hx, hb, hml, hown, hts⟩ (m_X3_wrong l D g H.size adM kM tM M1 r27 M28 hc28) (cwV 0 hts (lw_V q1769 q1771 qs54 q79 q1772) rfl rfl rfl (by decide +kernel) ⟨Nat.le_of_ble_eq_true rfl, Nat.le_of_ble_eq_true rfl⟩) (b_preV (pp := 0) (q := 0) hW hp28 rfl mW_0 rfl) rfl rfl hl.1 rfl (lv_room (Nat.le_of_ble_eq_true rfl)) dX3_letterTold_40 ⟨Nat.le_of_ble_eq_true rfl, Nat.le_of_ble_eq_true rfl⟩) hW hp28 (fun _ _ H locs hW => ?_)
        have hW : bW D g A s H locs [mW g adM kM tM M28] := hW
        obtain ⟨h29, hf⟩ := o_cs hf
        cases hf
        exact b_zret hx hb hr hlk hE hW () rfl trivial rfl h29 dX3_letterTold_43
def f_X3_writeTold_L8 (fu : Nat) (rec2 : (Int32 × Int32 × BC) → Option (Int32 × BC)) : Int32 × Int32 × BC → Option (Int32 × BC)
  | (v3, v4, M5) =>
    (if v4 = 0 then
     (if (M5.1 0 7) = 2 then
     (if (M5.1 0 7) = 2 then
     (if (M5.1 0 1) ≤ (M5.1 0 9) then
     o_b2 (f_X3_number fu M5 0 0 ((M5.1 0 1) - 1)) fun (r46 : Int32) (M47 : BC) =>
     (if r46 = 0 then
     o_b2 (f_X3_wrong M47) fun (r50 : Int32) (M51 : BC) =>
     o_ck (decide (r50 = 0) || decide (r50 = 1)) (some (r50, M51))
     else
     o_lt (v3 ||| (1 <<< ((M47.1 31 (ix 0)) &&& 31))) fun (v49 : Int32) =>
     rec2 (v49, 0, M47))
     else
     (if ((v3 >>> ((M5.1 0 9) &&& 31)) &&& 1) = 0 then
     o_b2 (f_X3_number fu M5 0 0 ((M5.1 0 1) - 1)) fun (r57 : Int32) (M58 : BC) =>
     (if r57 = 0 then
     o_b2 (f_X3_wrong M58) fun (r61 : Int32) (M62 : BC) =>
     o_ck (decide (r61 = 0) || decide (r61 = 1)) (some (r61, M62))
     else
     o_lt (v3 ||| (1 <<< ((M58.1 31 (ix 0)) &&& 31))) fun (v60 : Int32) =>
     rec2 (v60, 0, M58))
     else
     o_b2 (f_X3_wrong M5) fun (r54 : Int32) (M55 : BC) =>
     o_ck (decide (r54 = 0) || decide (r54 = 1)) (some (r54, M55))))
     else
     o_b2 (f_X3_number fu M5 0 0 ((M5.1 0 1) - 1)) fun (r38 : Int32) (M39 : BC) =>
     (if r38 = 0 then
     o_b2 (f_X3_wrong M39) fun (r42 : Int32) (M43 : BC) =>
     o_ck (decide (r42 = 0) || decide (r42 = 1)) (some (r42, M43))
     else
     o_lt (v3 ||| (1 <<< ((M39.1 31 (ix 0)) &&& 31))) fun (v41 : Int32) =>
     rec2 (v41, 0, M39)))
     else
     o_b2 (f_X3_writes fu M5 v3) fun (r35 : Int32) (M36 : BC) =>
     some (1, M36))
     else
     (if (M5.1 0 7) = 2 then
     (if (M5.1 0 1) ≤ (M5.1 0 9) then
     o_b2 (f_X3_number fu M5 0 0 ((M5.1 0 1) - 1)) fun (r16 : Int32) (M17 : BC) =>
     (if r16 = 0 then
     o_b2 (f_X3_wrong M17) fun (r20 : Int32) (M21 : BC) =>
     o_ck (decide (r20 = 0) || decide (r20 = 1)) (some (r20, M21))
     else
     o_lt (v3 ||| (1 <<< ((M17.1 31 (ix 0)) &&& 31))) fun (v19 : Int32) =>
     rec2 (v19, 0, M17))
     else
     (if ((v3 >>> ((M5.1 0 9) &&& 31)) &&& 1) = 0 then
     o_b2 (f_X3_number fu M5 0 0 ((M5.1 0 1) - 1)) fun (r27 : Int32) (M28 : BC) =>
     (if r27 = 0 then
     o_b2 (f_X3_wrong M28) fun (r31 : Int32) (M32 : BC) =>
     o_ck (decide (r31 = 0) || decide (r31 = 1)) (some (r31, M32))
     else
     o_lt (v3 ||| (1 <<< ((M28.1 31 (ix 0)) &&& 31))) fun (v30 : Int32) =>
     rec2 (v30, 0, M28))
     else
     o_b2 (f_X3_wrong M5) fun (r24 : Int32) (M25 : BC) =>
     o_ck (decide (r24 = 0) || decide (r24 = 1)) (some (r24, M25))))
     else
     o_b2 (f_X3_number fu M5 0 0 ((M5.1 0 1) - 1)) fun (r8 : Int32) (M9 : BC) =>
     (if r8 = 0 then
     o_b2 (f_X3_wrong M9) fun (r12 : Int32) (M13 : BC) =>
     o_ck (decide (r12 = 0) || decide (r12 = 1)) (some (r12, M13))
     else
     o_lt (v3 ||| (1 <<< ((M9.1 31 (ix 0)) &&& 31))) fun (v11 : Int32) =>
     rec2 (v11, 0, M9))))
def f_X3_writeTold (fu : Nat) (M : BC) : Option (Int32 × BC) :=
 o_b1 (f_X3_look fu M) fun (M1 : BC) =>
 o_lp (f_X3_writeTold_L8 fu) fu (0, 1, M1)
abbrev rm_X3_writeTold : Room := { frames := 3, cells := 0, slots := 0, locals := 63 }
set_option maxHeartbeats 4000000 in
set_option maxRecDepth 100000 in
theorem m_X3_writeTold (l : Launch) (D : va_G) (g : Nat → ClassId) (sz : Nat) (adM : Nat → Nat) (kM : Option Nat) (tM : Option Nat) (fu : Nat) (M : BC) (rO : Int32) (MO : BC) (hf : f_X3_writeTold fu M = some (rO, MO)) : bMet (S := Unit) l yX3_writeTold (ws_ yX3_writeTold cX3_writeTold 3 (some .boolean)) rm_X3_writeTold D g sz [.ref (adM 0)] [mW g adM kM tM M] (fun _ => True) (fun _ => some (.int rO)) (fun _ => [mW g adM kM tM MO]) := by
  refine b_met (by decide) (Nat.le_of_ble_eq_true rfl) ?_
  intro p e s m args below meth c A Q ls hx hb hml hr hlk hown hname hts hE hl hW
  revert hW; generalize s.heap = H; intro hW
  have hl : lv_has ls 3 [(0, .ref (adM 0))] := hl
  rw [f_X3_writeTold] at hf
  refine lv_aload_n hx hb dX3_writeTold_0 rfl (lv_at hl 0 rfl) ?_
  obtain ⟨M1, hc1, hf⟩ := o_b1s hf
  have hp1 : List.Perm [mW g adM kM tM M] ([mW g adM kM tM M] ++ []) := b_perm [0] [] 1 rfl rfl rfl rfl
  refine b_call0 ⟨rfl, rfl⟩ (va_runV (As := []) (rest := []) ⟨hx, hb, hml, hown, hts⟩ (m_X3_look l D g H.size adM kM tM fu M M1 hc1) (cwV 0 hts (lw_V q1718 q1720 qs48 q79 q1721) rfl rfl rfl (by decide +kernel) ⟨Nat.le_of_ble_eq_true rfl, Nat.le_of_ble_eq_true rfl⟩) (b_preV (pp := 0) (q := 0) hW hp1 rfl mW_0 rfl) rfl rfl hl.1 rfl (lv_room (Nat.le_of_ble_eq_true rfl)) dX3_writeTold_1 ⟨Nat.le_of_ble_eq_true rfl, Nat.le_of_ble_eq_true rfl⟩) hW hp1 (fun _ _ H locs hW => ?_)
  have hW : bW D g A s H locs [mW g adM kM tM M1] := hW
  refine lv_iconst (v := 0) hx hb dX3_writeTold_4 (by decide) ?_
  refine lv_istore_n (lv' := [(1, .int 0), (0, .ref (adM 0))]) hx hb dX3_writeTold_5 rfl hl (by decide) rfl (fun ls hl => ?_)
  refine lv_iconst (v := 1) hx hb dX3_writeTold_6 (by decide) ?_
  refine lv_istore_n (lv' := [(2, .int 1), (1, .int 0), (0, .ref (adM 0))]) hx hb dX3_writeTold_7 rfl hl (by decide) rfl (fun ls hl => ?_)
  obtain ⟨stp2, est2, hf⟩ := o_ln hf
  have L2 : ∀ (n : Nat) (v3 : Int32) (v4 : Int32) (M5 : BC) (H : Heap) (locs : List Loc) (ls : Array Slot), bW D g A s H locs [mW g adM kM tM M5] → lv_has ls 3 [(2, .int v4), (1, .int v3), (0, .ref (adM 0))] → o_lp stp2 n (v3, v4, M5) = some (rO, MO) → W p l e rm_X3_writeTold s m args below meth c H locs 0 0 Q (F0 m 8 ls []) := by
    intro n2
    induction n2 with
    | zero => intro v3 v4 M5 H locs ls hW hl hf; exact (o_lz hf).elim
    | succ n2 ih2 =>
      intro v3 v4 M5 H locs ls hW hl hf
      have hf := o_lu est2 hf
      rw [f_X3_writeTold_L8] at hf
      refine lv_iload_n hx hb dX3_writeTold_8 rfl (lv_at hl 0 rfl) ?_
      refine lv_if_ne (tgt := 20) hx hb dX3_writeTold_9 (by decide) (fun c6 => ?_) (fun c6 => ?_)
      · have hf := o_f hf c6
        refine lv_iconst (v := 0) hx hb dX3_writeTold_20 (by decide) ?_
        refine lv_istore_n (lv' := [(2, .int 0), (1, .int v3), (0, .ref (adM 0))]) hx hb dX3_writeTold_21 rfl hl (by decide) rfl (fun ls hl => ?_)
        refine lv_aload_n hx hb dX3_writeTold_22 rfl (lv_at hl 2 rfl) ?_
        refine b_get hx hb hts in_X3 hown hW 0 0 3 19 rfl mW_0 rfl (by decide) ⟨rfl, rfl, rfl⟩ (hts _ q1478) mW_g19 dX3_writeTold_23 ?_
        refine lv_iconst (v := 2) hx hb dX3_writeTold_26 (by decide) ?_
        refine lv_icmp_ne (tgt := 52) hx hb dX3_writeTold_27 (by decide) (fun c7 => ?_) (fun c7 => ?_)
        · have hf := o_f hf c7
          refine lv_aload_n hx hb dX3_writeTold_52 rfl (lv_at hl 2 rfl) ?_
          refine lv_iconst (v := 0) hx hb dX3_writeTold_53 (by decide) ?_
          refine lv_iconst (v := 0) hx hb dX3_writeTold_54 (by decide) ?_
          refine lv_aload_n hx hb dX3_writeTold_55 rfl (lv_at hl 2 rfl) ?_
          refine b_get hx hb hts in_X3 hown hW 0 0 3 9 rfl mW_0 rfl (by decide) ⟨rfl, rfl, rfl⟩ (hts _ q1468) mW_g9 dX3_writeTold_56 ?_
          refine lv_iconst (v := 1) hx hb dX3_writeTold_59 (by decide) ?_
          refine lv_isub hx hb dX3_writeTold_60 ?_
          obtain ⟨r8, M9, hc9, hf⟩ := o_b2s hf
          have hp9 : List.Perm [mW g adM kM tM M5] ([mW g adM kM tM M5] ++ []) := b_perm [0] [] 1 rfl rfl rfl rfl
          refine b_call0 ⟨rfl, rfl⟩ (va_runV (As := [.int 0, .int 0, .int ((M5.1 0 1) - 1)]) (rest := []) ⟨hx, hb, hml, hown, hts⟩ (m_X3_number l D g H.size adM kM tM fu M5 0 0 ((M5.1 0 1) - 1) r8 M9 hc9) (cwV 3 hts (lw_V q1765 q1767 qs53 q79 q1768) rfl rfl rfl (by decide +kernel) ⟨Nat.le_of_ble_eq_true rfl, Nat.le_of_ble_eq_true rfl⟩) (b_preV (pp := 0) (q := 0) hW hp9 rfl mW_0 rfl) rfl rfl hl.1 rfl (lv_room (Nat.le_of_ble_eq_true rfl)) dX3_writeTold_61 ⟨Nat.le_of_ble_eq_true rfl, Nat.le_of_ble_eq_true rfl⟩) hW hp9 (fun _ _ H locs hW => ?_)
          have hW : bW D g A s H locs [mW g adM kM tM M9] := hW
          refine lv_if_ne (tgt := 72) hx hb dX3_writeTold_64 (by decide) (fun c10 => ?_) (fun c10 => ?_)
          · have hf := o_f hf c10
            refine lv_iload_n hx hb dX3_writeTold_72 rfl (lv_at hl 1 rfl) ?_
            refine lv_iconst (v := 1) hx hb dX3_writeTold_73 (by decide) ?_
            refine lv_aload_n hx hb dX3_writeTold_74 rfl (lv_at hl 2 rfl) ?_
            refine b_get hx hb hts in_X3 hown hW 0 0 3 23 rfl mW_0 rfl (by decide) ⟨rfl, rfl, rfl⟩ (hts _ q1482) mW_g23 dX3_writeTold_75 ?_
            refine lv_iconst (v := 0) hx hb dX3_writeTold_78 (by decide) ?_
            refine b_iald hx hb hW 0 31 rfl mW_31 (by decide) dX3_writeTold_79 ?_
            refine lv_ishl hx hb dX3_writeTold_80 ?_
            refine lv_ior hx hb dX3_writeTold_81 ?_
            obtain ⟨v11, ev11, hf⟩ := o_ls hf
            refine b_topi ev11 ?_
            refine lv_istore_n (lv' := [(1, .int v11), (2, .int 0), (0, .ref (adM 0))]) hx hb dX3_writeTold_82 rfl hl (by decide) rfl (fun ls hl => ?_)
            refine lv_goto (tgt := 8) hx hb dX3_writeTold_83 (by decide) ?_
            exact ih2 _ _ _ _ _ _ hW (lv_sub hl [1, 0, 2] rfl) hf
          · have hf := o_t hf c10
            refine lv_aload_n hx hb dX3_writeTold_67 rfl (lv_at hl 2 rfl) ?_
            obtain ⟨r12, M13, hc13, hf⟩ := o_b2s hf
            have hp13 : List.Perm [mW g adM kM tM M9] ([mW g adM kM tM M9] ++ []) := b_perm [0] [] 1 rfl rfl rfl rfl
            refine b_call0 ⟨rfl, rfl⟩ (va_runV (As := []) (rest := []) ⟨hx, hb, hml, hown, hts⟩ (m_X3_wrong l D g H.size adM kM tM M9 r12 M13 hc13) (cwV 0 hts (lw_V q1769 q1771 qs54 q79 q1772) rfl rfl rfl (by decide +kernel) ⟨Nat.le_of_ble_eq_true rfl, Nat.le_of_ble_eq_true rfl⟩) (b_preV (pp := 0) (q := 0) hW hp13 rfl mW_0 rfl) rfl rfl hl.1 rfl (lv_room (Nat.le_of_ble_eq_true rfl)) dX3_writeTold_68 ⟨Nat.le_of_ble_eq_true rfl, Nat.le_of_ble_eq_true rfl⟩) hW hp13 (fun _ _ H locs hW => ?_)
            have hW : bW D g A s H locs [mW g adM kM tM M13] := hW
            obtain ⟨h14, hf⟩ := o_cs hf
            cases hf
            exact b_zret hx hb hr hlk hE hW () rfl trivial rfl h14 dX3_writeTold_71
        · have hf := o_t hf c7
          refine lv_aload_n hx hb dX3_writeTold_30 rfl (lv_at hl 2 rfl) ?_
          refine b_get hx hb hts in_X3 hown hW 0 0 3 21 rfl mW_0 rfl (by decide) ⟨rfl, rfl, rfl⟩ (hts _ q1480) mW_g21 dX3_writeTold_31 ?_
          refine lv_aload_n hx hb dX3_writeTold_34 rfl (lv_at hl 2 rfl) ?_
          refine b_get hx hb hts in_X3 hown hW 0 0 3 9 rfl mW_0 rfl (by decide) ⟨rfl, rfl, rfl⟩ (hts _ q1468) mW_g9 dX3_writeTold_35 ?_
          refine lv_icmp_ge (tgt := 52) hx hb dX3_writeTold_38 (by decide) (fun c15 => ?_) (fun c15 => ?_)
          · have hf := o_t hf c15
            refine lv_aload_n hx hb dX3_writeTold_52 rfl (lv_at hl 2 rfl) ?_
            refine lv_iconst (v := 0) hx hb dX3_writeTold_53 (by decide) ?_
            refine lv_iconst (v := 0) hx hb dX3_writeTold_54 (by decide) ?_
            refine lv_aload_n hx hb dX3_writeTold_55 rfl (lv_at hl 2 rfl) ?_
            refine b_get hx hb hts in_X3 hown hW 0 0 3 9 rfl mW_0 rfl (by decide) ⟨rfl, rfl, rfl⟩ (hts _ q1468) mW_g9 dX3_writeTold_56 ?_
            refine lv_iconst (v := 1) hx hb dX3_writeTold_59 (by decide) ?_
            refine lv_isub hx hb dX3_writeTold_60 ?_
            obtain ⟨r16, M17, hc17, hf⟩ := o_b2s hf
            have hp17 : List.Perm [mW g adM kM tM M5] ([mW g adM kM tM M5] ++ []) := b_perm [0] [] 1 rfl rfl rfl rfl
            refine b_call0 ⟨rfl, rfl⟩ (va_runV (As := [.int 0, .int 0, .int ((M5.1 0 1) - 1)]) (rest := []) ⟨hx, hb, hml, hown, hts⟩ (m_X3_number l D g H.size adM kM tM fu M5 0 0 ((M5.1 0 1) - 1) r16 M17 hc17) (cwV 3 hts (lw_V q1765 q1767 qs53 q79 q1768) rfl rfl rfl (by decide +kernel) ⟨Nat.le_of_ble_eq_true rfl, Nat.le_of_ble_eq_true rfl⟩) (b_preV (pp := 0) (q := 0) hW hp17 rfl mW_0 rfl) rfl rfl hl.1 rfl (lv_room (Nat.le_of_ble_eq_true rfl)) dX3_writeTold_61 ⟨Nat.le_of_ble_eq_true rfl, Nat.le_of_ble_eq_true rfl⟩) hW hp17 (fun _ _ H locs hW => ?_)
            have hW : bW D g A s H locs [mW g adM kM tM M17] := hW
            refine lv_if_ne (tgt := 72) hx hb dX3_writeTold_64 (by decide) (fun c18 => ?_) (fun c18 => ?_)
            · have hf := o_f hf c18
              refine lv_iload_n hx hb dX3_writeTold_72 rfl (lv_at hl 1 rfl) ?_
              refine lv_iconst (v := 1) hx hb dX3_writeTold_73 (by decide) ?_
              refine lv_aload_n hx hb dX3_writeTold_74 rfl (lv_at hl 2 rfl) ?_
              refine b_get hx hb hts in_X3 hown hW 0 0 3 23 rfl mW_0 rfl (by decide) ⟨rfl, rfl, rfl⟩ (hts _ q1482) mW_g23 dX3_writeTold_75 ?_
              refine lv_iconst (v := 0) hx hb dX3_writeTold_78 (by decide) ?_
              refine b_iald hx hb hW 0 31 rfl mW_31 (by decide) dX3_writeTold_79 ?_
              refine lv_ishl hx hb dX3_writeTold_80 ?_
              refine lv_ior hx hb dX3_writeTold_81 ?_
              obtain ⟨v19, ev19, hf⟩ := o_ls hf
              refine b_topi ev19 ?_
              refine lv_istore_n (lv' := [(1, .int v19), (2, .int 0), (0, .ref (adM 0))]) hx hb dX3_writeTold_82 rfl hl (by decide) rfl (fun ls hl => ?_)
              refine lv_goto (tgt := 8) hx hb dX3_writeTold_83 (by decide) ?_
              exact ih2 _ _ _ _ _ _ hW (lv_sub hl [1, 0, 2] rfl) hf
            · have hf := o_t hf c18
              refine lv_aload_n hx hb dX3_writeTold_67 rfl (lv_at hl 2 rfl) ?_
              obtain ⟨r20, M21, hc21, hf⟩ := o_b2s hf
              have hp21 : List.Perm [mW g adM kM tM M17] ([mW g adM kM tM M17] ++ []) := b_perm [0] [] 1 rfl rfl rfl rfl
              refine b_call0 ⟨rfl, rfl⟩ (va_runV (As := []) (rest := []) ⟨hx, hb, hml, hown, hts⟩ (m_X3_wrong l D g H.size adM kM tM M17 r20 M21 hc21) (cwV 0 hts (lw_V q1769 q1771 qs54 q79 q1772) rfl rfl rfl (by decide +kernel) ⟨Nat.le_of_ble_eq_true rfl, Nat.le_of_ble_eq_true rfl⟩) (b_preV (pp := 0) (q := 0) hW hp21 rfl mW_0 rfl) rfl rfl hl.1 rfl (lv_room (Nat.le_of_ble_eq_true rfl)) dX3_writeTold_68 ⟨Nat.le_of_ble_eq_true rfl, Nat.le_of_ble_eq_true rfl⟩) hW hp21 (fun _ _ H locs hW => ?_)
              have hW : bW D g A s H locs [mW g adM kM tM M21] := hW
              obtain ⟨h22, hf⟩ := o_cs hf
              cases hf
              exact b_zret hx hb hr hlk hE hW () rfl trivial rfl h22 dX3_writeTold_71
          · have hf := o_f hf c15
            refine lv_iload_n hx hb dX3_writeTold_41 rfl (lv_at hl 1 rfl) ?_
            refine lv_aload_n hx hb dX3_writeTold_42 rfl (lv_at hl 2 rfl) ?_
            refine b_get hx hb hts in_X3 hown hW 0 0 3 21 rfl mW_0 rfl (by decide) ⟨rfl, rfl, rfl⟩ (hts _ q1480) mW_g21 dX3_writeTold_43 ?_
            refine lv_ishr hx hb dX3_writeTold_46 ?_
            refine lv_iconst (v := 1) hx hb dX3_writeTold_47 (by decide) ?_
            refine lv_iand hx hb dX3_writeTold_48 ?_
            refine lv_if_ne (tgt := 67) hx hb dX3_writeTold_49 (by decide) (fun c23 => ?_) (fun c23 => ?_)
            · have hf := o_f hf c23
              refine lv_aload_n hx hb dX3_writeTold_67 rfl (lv_at hl 2 rfl) ?_
              obtain ⟨r24, M25, hc25, hf⟩ := o_b2s hf
              have hp25 : List.Perm [mW g adM kM tM M5] ([mW g adM kM tM M5] ++ []) := b_perm [0] [] 1 rfl rfl rfl rfl
              refine b_call0 ⟨rfl, rfl⟩ (va_runV (As := []) (rest := []) ⟨hx, hb, hml, hown, hts⟩ (m_X3_wrong l D g H.size adM kM tM M5 r24 M25 hc25) (cwV 0 hts (lw_V q1769 q1771 qs54 q79 q1772) rfl rfl rfl (by decide +kernel) ⟨Nat.le_of_ble_eq_true rfl, Nat.le_of_ble_eq_true rfl⟩) (b_preV (pp := 0) (q := 0) hW hp25 rfl mW_0 rfl) rfl rfl hl.1 rfl (lv_room (Nat.le_of_ble_eq_true rfl)) dX3_writeTold_68 ⟨Nat.le_of_ble_eq_true rfl, Nat.le_of_ble_eq_true rfl⟩) hW hp25 (fun _ _ H locs hW => ?_)
              have hW : bW D g A s H locs [mW g adM kM tM M25] := hW
              obtain ⟨h26, hf⟩ := o_cs hf
              cases hf
              exact b_zret hx hb hr hlk hE hW () rfl trivial rfl h26 dX3_writeTold_71
            · have hf := o_t hf c23
              refine lv_aload_n hx hb dX3_writeTold_52 rfl (lv_at hl 2 rfl) ?_
              refine lv_iconst (v := 0) hx hb dX3_writeTold_53 (by decide) ?_
              refine lv_iconst (v := 0) hx hb dX3_writeTold_54 (by decide) ?_
              refine lv_aload_n hx hb dX3_writeTold_55 rfl (lv_at hl 2 rfl) ?_
              refine b_get hx hb hts in_X3 hown hW 0 0 3 9 rfl mW_0 rfl (by decide) ⟨rfl, rfl, rfl⟩ (hts _ q1468) mW_g9 dX3_writeTold_56 ?_
              refine lv_iconst (v := 1) hx hb dX3_writeTold_59 (by decide) ?_
              refine lv_isub hx hb dX3_writeTold_60 ?_
              obtain ⟨r27, M28, hc28, hf⟩ := o_b2s hf
              have hp28 : List.Perm [mW g adM kM tM M5] ([mW g adM kM tM M5] ++ []) := b_perm [0] [] 1 rfl rfl rfl rfl
              refine b_call0 ⟨rfl, rfl⟩ (va_runV (As := [.int 0, .int 0, .int ((M5.1 0 1) - 1)]) (rest := []) ⟨hx, hb, hml, hown, hts⟩ (m_X3_number l D g H.size adM kM tM fu M5 0 0 ((M5.1 0 1) - 1) r27 M28 hc28) (cwV 3 hts (lw_V q1765 q1767 qs53 q79 q1768) rfl rfl rfl (by decide +kernel) ⟨Nat.le_of_ble_eq_true rfl, Nat.le_of_ble_eq_true rfl⟩) (b_preV (pp := 0) (q := 0) hW hp28 rfl mW_0 rfl) rfl rfl hl.1 rfl (lv_room (Nat.le_of_ble_eq_true rfl)) dX3_writeTold_61 ⟨Nat.le_of_ble_eq_true rfl, Nat.le_of_ble_eq_true rfl⟩) hW hp28 (fun _ _ H locs hW => ?_)
              have hW : bW D g A s H locs [mW g adM kM tM M28] := hW
              refine lv_if_ne (tgt := 72) hx hb dX3_writeTold_64 (by decide) (fun c29 => ?_) (fun c29 => ?_)
              · have hf := o_f hf c29
                refine lv_iload_n hx hb dX3_writeTold_72 rfl (lv_at hl 1 rfl) ?_
                refine lv_iconst (v := 1) hx hb dX3_writeTold_73 (by decide) ?_
                refine lv_aload_n hx hb dX3_writeTold_74 rfl (lv_at hl 2 rfl) ?_
                refine b_get hx hb hts in_X3 hown hW 0 0 3 23 rfl mW_0 rfl (by decide) ⟨rfl, rfl, rfl⟩ (hts _ q1482) mW_g23 dX3_writeTold_75 ?_
                refine lv_iconst (v := 0) hx hb dX3_writeTold_78 (by decide) ?_
                refine b_iald hx hb hW 0 31 rfl mW_31 (by decide) dX3_writeTold_79 ?_
                refine lv_ishl hx hb dX3_writeTold_80 ?_
                refine lv_ior hx hb dX3_writeTold_81 ?_
                obtain ⟨v30, ev30, hf⟩ := o_ls hf
                refine b_topi ev30 ?_
                refine lv_istore_n (lv' := [(1, .int v30), (2, .int 0), (0, .ref (adM 0))]) hx hb dX3_writeTold_82 rfl hl (by decide) rfl (fun ls hl => ?_)
                refine lv_goto (tgt := 8) hx hb dX3_writeTold_83 (by decide) ?_
                exact ih2 _ _ _ _ _ _ hW (lv_sub hl [1, 0, 2] rfl) hf
              · have hf := o_t hf c29
                refine lv_aload_n hx hb dX3_writeTold_67 rfl (lv_at hl 2 rfl) ?_
                obtain ⟨r31, M32, hc32, hf⟩ := o_b2s hf
                have hp32 : List.Perm [mW g adM kM tM M28] ([mW g adM kM tM M28] ++ []) := b_perm [0] [] 1 rfl rfl rfl rfl
                refine b_call0 ⟨rfl, rfl⟩ (va_runV (As := []) (rest := []) ⟨hx, hb, hml, hown, hts⟩ (m_X3_wrong l D g H.size adM kM tM M28 r31 M32 hc32) (cwV 0 hts (lw_V q1769 q1771 qs54 q79 q1772) rfl rfl rfl (by decide +kernel) ⟨Nat.le_of_ble_eq_true rfl, Nat.le_of_ble_eq_true rfl⟩) (b_preV (pp := 0) (q := 0) hW hp32 rfl mW_0 rfl) rfl rfl hl.1 rfl (lv_room (Nat.le_of_ble_eq_true rfl)) dX3_writeTold_68 ⟨Nat.le_of_ble_eq_true rfl, Nat.le_of_ble_eq_true rfl⟩) hW hp32 (fun _ _ H locs hW => ?_)
                have hW : bW D g A s H locs [mW g adM kM tM M32] := hW
                obtain ⟨h33, hf⟩ := o_cs hf
                cases hf
                exact b_zret hx hb hr hlk hE hW () rfl trivial rfl h33 dX3_writeTold_71
      · have hf := o_t hf c6
        refine lv_aload_n hx hb dX3_writeTold_12 rfl (lv_at hl 2 rfl) ?_
        refine b_get hx hb hts in_X3 hown hW 0 0 3 19 rfl mW_0 rfl (by decide) ⟨rfl, rfl, rfl⟩ (hts _ q1478) mW_g19 dX3_writeTold_13 ?_
        refine lv_iconst (v := 2) hx hb dX3_writeTold_16 (by decide) ?_
        refine lv_icmp_ne (tgt := 86) hx hb dX3_writeTold_17 (by decide) (fun c34 => ?_) (fun c34 => ?_)
        · have hf := o_f hf c34
          refine lv_aload_n hx hb dX3_writeTold_86 rfl (lv_at hl 2 rfl) ?_
          refine lv_iload_n hx hb dX3_writeTold_87 rfl (lv_at hl 1 rfl) ?_
          obtain ⟨r35, M36, hc36, hf⟩ := o_b2s hf
          have hp36 : List.Perm [mW g adM kM tM M5] ([mW g adM kM tM M5] ++ []) := b_perm [0] [] 1 rfl rfl rfl rfl
          refine b_call0 ⟨rfl, rfl⟩ (va_runV (As := [.int v3]) (rest := []) ⟨hx, hb, hml, hown, hts⟩ (m_X3_writes l D g H.size adM kM tM fu M5 v3 r35 M36 hc36) (cwV 1 hts (lw_V q1668 q1670 qs43 q79 q1671) rfl rfl rfl (by decide +kernel) ⟨Nat.le_of_ble_eq_true rfl, Nat.le_of_ble_eq_true rfl⟩) (b_preV (pp := 0) (q := 0) hW hp36 rfl mW_0 rfl) rfl rfl hl.1 rfl (lv_room (Nat.le_of_ble_eq_true rfl)) dX3_writeTold_88 ⟨Nat.le_of_ble_eq_true rfl, Nat.le_of_ble_eq_true rfl⟩) hW hp36 (fun _ _ H locs hW => ?_)
          have hW : bW D g A s H locs [mW g adM kM tM M36] := hW
          refine lv_pop hx hb dX3_writeTold_91 rfl ?_
          refine lv_iconst (v := 1) hx hb dX3_writeTold_92 (by decide) ?_
          cases hf
          exact b_zret hx hb hr hlk hE hW () rfl trivial rfl (by decide) dX3_writeTold_93
        · have hf := o_t hf c34
          refine lv_iconst (v := 0) hx hb dX3_writeTold_20 (by decide) ?_
          refine lv_istore_n (lv' := [(2, .int 0), (1, .int v3), (0, .ref (adM 0))]) hx hb dX3_writeTold_21 rfl hl (by decide) rfl (fun ls hl => ?_)
          refine lv_aload_n hx hb dX3_writeTold_22 rfl (lv_at hl 2 rfl) ?_
          refine b_get hx hb hts in_X3 hown hW 0 0 3 19 rfl mW_0 rfl (by decide) ⟨rfl, rfl, rfl⟩ (hts _ q1478) mW_g19 dX3_writeTold_23 ?_
          refine lv_iconst (v := 2) hx hb dX3_writeTold_26 (by decide) ?_
          refine lv_icmp_ne (tgt := 52) hx hb dX3_writeTold_27 (by decide) (fun c37 => ?_) (fun c37 => ?_)
          · have hf := o_f hf c37
            refine lv_aload_n hx hb dX3_writeTold_52 rfl (lv_at hl 2 rfl) ?_
            refine lv_iconst (v := 0) hx hb dX3_writeTold_53 (by decide) ?_
            refine lv_iconst (v := 0) hx hb dX3_writeTold_54 (by decide) ?_
            refine lv_aload_n hx hb dX3_writeTold_55 rfl (lv_at hl 2 rfl) ?_
            refine b_get hx hb hts in_X3 hown hW 0 0 3 9 rfl mW_0 rfl (by decide) ⟨rfl, rfl, rfl⟩ (hts _ q1468) mW_g9 dX3_writeTold_56 ?_
            refine lv_iconst (v := 1) hx hb dX3_writeTold_59 (by decide) ?_
            refine lv_isub hx hb dX3_writeTold_60 ?_
            obtain ⟨r38, M39, hc39, hf⟩ := o_b2s hf
            have hp39 : List.Perm [mW g adM kM tM M5] ([mW g adM kM tM M5] ++ []) := b_perm [0] [] 1 rfl rfl rfl rfl
            refine b_call0 ⟨rfl, rfl⟩ (va_runV (As := [.int 0, .int 0, .int ((M5.1 0 1) - 1)]) (rest := []) ⟨hx, hb, hml, hown, hts⟩ (m_X3_number l D g H.size adM kM tM fu M5 0 0 ((M5.1 0 1) - 1) r38 M39 hc39) (cwV 3 hts (lw_V q1765 q1767 qs53 q79 q1768) rfl rfl rfl (by decide +kernel) ⟨Nat.le_of_ble_eq_true rfl, Nat.le_of_ble_eq_true rfl⟩) (b_preV (pp := 0) (q := 0) hW hp39 rfl mW_0 rfl) rfl rfl hl.1 rfl (lv_room (Nat.le_of_ble_eq_true rfl)) dX3_writeTold_61 ⟨Nat.le_of_ble_eq_true rfl, Nat.le_of_ble_eq_true rfl⟩) hW hp39 (fun _ _ H locs hW => ?_)
            have hW : bW D g A s H locs [mW g adM kM tM M39] := hW
            refine lv_if_ne (tgt := 72) hx hb dX3_writeTold_64 (by decide) (fun c40 => ?_) (fun c40 => ?_)
            · have hf := o_f hf c40
              refine lv_iload_n hx hb dX3_writeTold_72 rfl (lv_at hl 1 rfl) ?_
              refine lv_iconst (v := 1) hx hb dX3_writeTold_73 (by decide) ?_
              refine lv_aload_n hx hb dX3_writeTold_74 rfl (lv_at hl 2 rfl) ?_
              refine b_get hx hb hts in_X3 hown hW 0 0 3 23 rfl mW_0 rfl (by decide) ⟨rfl, rfl, rfl⟩ (hts _ q1482) mW_g23 dX3_writeTold_75 ?_
              refine lv_iconst (v := 0) hx hb dX3_writeTold_78 (by decide) ?_
              refine b_iald hx hb hW 0 31 rfl mW_31 (by decide) dX3_writeTold_79 ?_
              refine lv_ishl hx hb dX3_writeTold_80 ?_
              refine lv_ior hx hb dX3_writeTold_81 ?_
              obtain ⟨v41, ev41, hf⟩ := o_ls hf
              refine b_topi ev41 ?_
              refine lv_istore_n (lv' := [(1, .int v41), (2, .int 0), (0, .ref (adM 0))]) hx hb dX3_writeTold_82 rfl hl (by decide) rfl (fun ls hl => ?_)
              refine lv_goto (tgt := 8) hx hb dX3_writeTold_83 (by decide) ?_
              exact ih2 _ _ _ _ _ _ hW (lv_sub hl [1, 0, 2] rfl) hf
            · have hf := o_t hf c40
              refine lv_aload_n hx hb dX3_writeTold_67 rfl (lv_at hl 2 rfl) ?_
              obtain ⟨r42, M43, hc43, hf⟩ := o_b2s hf
              have hp43 : List.Perm [mW g adM kM tM M39] ([mW g adM kM tM M39] ++ []) := b_perm [0] [] 1 rfl rfl rfl rfl
              refine b_call0 ⟨rfl, rfl⟩ (va_runV (As := []) (rest := []) ⟨hx, hb, hml, hown, hts⟩ (m_X3_wrong l D g H.size adM kM tM M39 r42 M43 hc43) (cwV 0 hts (lw_V q1769 q1771 qs54 q79 q1772) rfl rfl rfl (by decide +kernel) ⟨Nat.le_of_ble_eq_true rfl, Nat.le_of_ble_eq_true rfl⟩) (b_preV (pp := 0) (q := 0) hW hp43 rfl mW_0 rfl) rfl rfl hl.1 rfl (lv_room (Nat.le_of_ble_eq_true rfl)) dX3_writeTold_68 ⟨Nat.le_of_ble_eq_true rfl, Nat.le_of_ble_eq_true rfl⟩) hW hp43 (fun _ _ H locs hW => ?_)
              have hW : bW D g A s H locs [mW g adM kM tM M43] := hW
              obtain ⟨h44, hf⟩ := o_cs hf
              cases hf
              exact b_zret hx hb hr hlk hE hW () rfl trivial rfl h44 dX3_writeTold_71
          · have hf := o_t hf c37
            refine lv_aload_n hx hb dX3_writeTold_30 rfl (lv_at hl 2 rfl) ?_
            refine b_get hx hb hts in_X3 hown hW 0 0 3 21 rfl mW_0 rfl (by decide) ⟨rfl, rfl, rfl⟩ (hts _ q1480) mW_g21 dX3_writeTold_31 ?_
            refine lv_aload_n hx hb dX3_writeTold_34 rfl (lv_at hl 2 rfl) ?_
            refine b_get hx hb hts in_X3 hown hW 0 0 3 9 rfl mW_0 rfl (by decide) ⟨rfl, rfl, rfl⟩ (hts _ q1468) mW_g9 dX3_writeTold_35 ?_
            refine lv_icmp_ge (tgt := 52) hx hb dX3_writeTold_38 (by decide) (fun c45 => ?_) (fun c45 => ?_)
            · have hf := o_t hf c45
              refine lv_aload_n hx hb dX3_writeTold_52 rfl (lv_at hl 2 rfl) ?_
              refine lv_iconst (v := 0) hx hb dX3_writeTold_53 (by decide) ?_
              refine lv_iconst (v := 0) hx hb dX3_writeTold_54 (by decide) ?_
              refine lv_aload_n hx hb dX3_writeTold_55 rfl (lv_at hl 2 rfl) ?_
              refine b_get hx hb hts in_X3 hown hW 0 0 3 9 rfl mW_0 rfl (by decide) ⟨rfl, rfl, rfl⟩ (hts _ q1468) mW_g9 dX3_writeTold_56 ?_
              refine lv_iconst (v := 1) hx hb dX3_writeTold_59 (by decide) ?_
              refine lv_isub hx hb dX3_writeTold_60 ?_
              obtain ⟨r46, M47, hc47, hf⟩ := o_b2s hf
              have hp47 : List.Perm [mW g adM kM tM M5] ([mW g adM kM tM M5] ++ []) := b_perm [0] [] 1 rfl rfl rfl rfl
              refine b_call0 ⟨rfl, rfl⟩ (va_runV (As := [.int 0, .int 0, .int ((M5.1 0 1) - 1)]) (rest := []) ⟨hx, hb, hml, hown, hts⟩ (m_X3_number l D g H.size adM kM tM fu M5 0 0 ((M5.1 0 1) - 1) r46 M47 hc47) (cwV 3 hts (lw_V q1765 q1767 qs53 q79 q1768) rfl rfl rfl (by decide +kernel) ⟨Nat.le_of_ble_eq_true rfl, Nat.le_of_ble_eq_true rfl⟩) (b_preV (pp := 0) (q := 0) hW hp47 rfl mW_0 rfl) rfl rfl hl.1 rfl (lv_room (Nat.le_of_ble_eq_true rfl)) dX3_writeTold_61 ⟨Nat.le_of_ble_eq_true rfl, Nat.le_of_ble_eq_true rfl⟩) hW hp47 (fun _ _ H locs hW => ?_)
              have hW : bW D g A s H locs [mW g adM kM tM M47] := hW
              refine lv_if_ne (tgt := 72) hx hb dX3_writeTold_64 (by decide) (fun c48 => ?_) (fun c48 => ?_)
              · have hf := o_f hf c48
                refine lv_iload_n hx hb dX3_writeTold_72 rfl (lv_at hl 1 rfl) ?_
                refine lv_iconst (v := 1) hx hb dX3_writeTold_73 (by decide) ?_
                refine lv_aload_n hx hb dX3_writeTold_74 rfl (lv_at hl 2 rfl) ?_
                refine b_get hx hb hts in_X3 hown hW 0 0 3 23 rfl mW_0 rfl (by decide) ⟨rfl, rfl, rfl⟩ (hts _ q1482) mW_g23 dX3_writeTold_75 ?_
                refine lv_iconst (v := 0) hx hb dX3_writeTold_78 (by decide) ?_
                refine b_iald hx hb hW 0 31 rfl mW_31 (by decide) dX3_writeTold_79 ?_
                refine lv_ishl hx hb dX3_writeTold_80 ?_
                refine lv_ior hx hb dX3_writeTold_81 ?_
                obtain ⟨v49, ev49, hf⟩ := o_ls hf
                refine b_topi ev49 ?_
                refine lv_istore_n (lv' := [(1, .int v49), (2, .int 0), (0, .ref (adM 0))]) hx hb dX3_writeTold_82 rfl hl (by decide) rfl (fun ls hl => ?_)
                refine lv_goto (tgt := 8) hx hb dX3_writeTold_83 (by decide) ?_
                exact ih2 _ _ _ _ _ _ hW (lv_sub hl [1, 0, 2] rfl) hf
              · have hf := o_t hf c48
                refine lv_aload_n hx hb dX3_writeTold_67 rfl (lv_at hl 2 rfl) ?_
                obtain ⟨r50, M51, hc51, hf⟩ := o_b2s hf
                have hp51 : List.Perm [mW g adM kM tM M47] ([mW g adM kM tM M47] ++ []) := b_perm [0] [] 1 rfl rfl rfl rfl
                refine b_call0 ⟨rfl, rfl⟩ (va_runV (As := []) (rest := []) ⟨hx, hb, hml, hown, hts⟩ (m_X3_wrong l D g H.size adM kM tM M47 r50 M51 hc51) (cwV 0 hts (lw_V q1769 q1771 qs54 q79 q1772) rfl rfl rfl (by decide +kernel) ⟨Nat.le_of_ble_eq_true rfl, Nat.le_of_ble_eq_true rfl⟩) (b_preV (pp := 0) (q := 0) hW hp51 rfl mW_0 rfl) rfl rfl hl.1 rfl (lv_room (Nat.le_of_ble_eq_true rfl)) dX3_writeTold_68 ⟨Nat.le_of_ble_eq_true rfl, Nat.le_of_ble_eq_true rfl⟩) hW hp51 (fun _ _ H locs hW => ?_)
                have hW : bW D g A s H locs [mW g adM kM tM M51] := hW
                obtain ⟨h52, hf⟩ := o_cs hf
                cases hf
                exact b_zret hx hb hr hlk hE hW () rfl trivial rfl h52 dX3_writeTold_71
            · have hf := o_f hf c45
              refine lv_iload_n hx hb dX3_writeTold_41 rfl (lv_at hl 1 rfl) ?_
              refine lv_aload_n hx hb dX3_writeTold_42 rfl (lv_at hl 2 rfl) ?_
              refine b_get hx hb hts in_X3 hown hW 0 0 3 21 rfl mW_0 rfl (by decide) ⟨rfl, rfl, rfl⟩ (hts _ q1480) mW_g21 dX3_writeTold_43 ?_
              refine lv_ishr hx hb dX3_writeTold_46 ?_
              refine lv_iconst (v := 1) hx hb dX3_writeTold_47 (by decide) ?_
              refine lv_iand hx hb dX3_writeTold_48 ?_
              refine lv_if_ne (tgt := 67) hx hb dX3_writeTold_49 (by decide) (fun c53 => ?_) (fun c53 => ?_)
              · have hf := o_f hf c53
                refine lv_aload_n hx hb dX3_writeTold_67 rfl (lv_at hl 2 rfl) ?_
                obtain ⟨r54, M55, hc55, hf⟩ := o_b2s hf
                have hp55 : List.Perm [mW g adM kM tM M5] ([mW g adM kM tM M5] ++ []) := b_perm [0] [] 1 rfl rfl rfl rfl
                refine b_call0 ⟨rfl, rfl⟩ (va_runV (As := []) (rest := []) ⟨hx, hb, hml, hown, hts⟩ (m_X3_wrong l D g H.size adM kM tM M5 r54 M55 hc55) (cwV 0 hts (lw_V q1769 q1771 qs54 q79 q1772) rfl rfl rfl (by decide +kernel) ⟨Nat.le_of_ble_eq_true rfl, Nat.le_of_ble_eq_true rfl⟩) (b_preV (pp := 0) (q := 0) hW hp55 rfl mW_0 rfl) rfl rfl hl.1 rfl (lv_room (Nat.le_of_ble_eq_true rfl)) dX3_writeTold_68 ⟨Nat.le_of_ble_eq_true rfl, Nat.le_of_ble_eq_true rfl⟩) hW hp55 (fun _ _ H locs hW => ?_)
                have hW : bW D g A s H locs [mW g adM kM tM M55] := hW
                obtain ⟨h56, hf⟩ := o_cs hf
                cases hf
                exact b_zret hx hb hr hlk hE hW () rfl trivial rfl h56 dX3_writeTold_71
              · have hf := o_t hf c53
                refine lv_aload_n hx hb dX3_writeTold_52 rfl (lv_at hl 2 rfl) ?_
                refine lv_iconst (v := 0) hx hb dX3_writeTold_53 (by decide) ?_
                refine lv_iconst (v := 0) hx hb dX3_writeTold_54 (by decide) ?_
                refine lv_aload_n hx hb dX3_writeTold_55 rfl (lv_at hl 2 rfl) ?_
                refine b_get hx hb hts in_X3 hown hW 0 0 3 9 rfl mW_0 rfl (by decide) ⟨rfl, rfl, rfl⟩ (hts _ q1468) mW_g9 dX3_writeTold_56 ?_
                refine lv_iconst (v := 1) hx hb dX3_writeTold_59 (by decide) ?_
                refine lv_isub hx hb dX3_writeTold_60 ?_
                obtain ⟨r57, M58, hc58, hf⟩ := o_b2s hf
                have hp58 : List.Perm [mW g adM kM tM M5] ([mW g adM kM tM M5] ++ []) := b_perm [0] [] 1 rfl rfl rfl rfl
                refine b_call0 ⟨rfl, rfl⟩ (va_runV (As := [.int 0, .int 0, .int ((M5.1 0 1) - 1)]) (rest := []) ⟨hx, hb, hml, hown, hts⟩ (m_X3_number l D g H.size adM kM tM fu M5 0 0 ((M5.1 0 1) - 1) r57 M58 hc58) (cwV 3 hts (lw_V q1765 q1767 qs53 q79 q1768) rfl rfl rfl (by decide +kernel) ⟨Nat.le_of_ble_eq_true rfl, Nat.le_of_ble_eq_true rfl⟩) (b_preV (pp := 0) (q := 0) hW hp58 rfl mW_0 rfl) rfl rfl hl.1 rfl (lv_room (Nat.le_of_ble_eq_true rfl)) dX3_writeTold_61 ⟨Nat.le_of_ble_eq_true rfl, Nat.le_of_ble_eq_true rfl⟩) hW hp58 (fun _ _ H locs hW => ?_)
                have hW : bW D g A s H locs [mW g adM kM tM M58] := hW
                refine lv_if_ne (tgt := 72) hx hb dX3_writeTold_64 (by decide) (fun c59 => ?_) (fun c59 => ?_)
                · have hf := o_f hf c59
                  refine lv_iload_n hx hb dX3_writeTold_72 rfl (lv_at hl 1 rfl) ?_
                  refine lv_iconst (v := 1) hx hb dX3_writeTold_73 (by decide) ?_
                  refine lv_aload_n hx hb dX3_writeTold_74 rfl (lv_at hl 2 rfl) ?_
                  refine b_get hx hb hts in_X3 hown hW 0 0 3 23 rfl mW_0 rfl (by decide) ⟨rfl, rfl, rfl⟩ (hts _ q1482) mW_g23 dX3_writeTold_75 ?_
                  refine lv_iconst (v := 0) hx hb dX3_writeTold_78 (by decide) ?_
                  refine b_iald hx hb hW 0 31 rfl mW_31 (by decide) dX3_writeTold_79 ?_
                  refine lv_ishl hx hb dX3_writeTold_80 ?_
                  refine lv_ior hx hb dX3_writeTold_81 ?_
                  obtain ⟨v60, ev60, hf⟩ := o_ls hf
                  refine b_topi ev60 ?_
                  refine lv_istore_n (lv' := [(1, .int v60), (2, .int 0), (0, .ref (adM 0))]) hx hb dX3_writeTold_82 rfl hl (by decide) rfl (fun ls hl => ?_)
                  refine lv_goto (tgt := 8) hx hb dX3_writeTold_83 (by decide) ?_
                  exact ih2 _ _ _ _ _ _ hW (lv_sub hl [1, 0, 2] rfl) hf
                · have hf := o_t hf c59
                  refine lv_aload_n hx hb dX3_writeTold_67 rfl (lv_at hl 2 rfl) ?_
                  obtain ⟨r61, M62, hc62, hf⟩ := o_b2s hf
                  have hp62 : List.Perm [mW g adM kM tM M58] ([mW g adM kM tM M58] ++ []) := b_perm [0] [] 1 rfl rfl rfl rfl
                  refine b_call0 ⟨rfl, rfl⟩ (va_runV (As := []) (rest := []) ⟨hx, hb, hml, hown, hts⟩ (m_X3_wrong l D g H.size adM kM tM M58 r61 M62 hc62) (cwV 0 hts (lw_V q1769 q1771 qs54 q79 q1772) rfl rfl rfl (by decide +kernel) ⟨Nat.le_of_ble_eq_true rfl, Nat.le_of_ble_eq_true rfl⟩) (b_preV (pp := 0) (q := 0) hW hp62 rfl mW_0 rfl) rfl rfl hl.1 rfl (lv_room (Nat.le_of_ble_eq_true rfl)) dX3_writeTold_68 ⟨Nat.le_of_ble_eq_true rfl, Nat.le_of_ble_eq_true rfl⟩) hW hp62 (fun _ _ H locs hW => ?_)
                  have hW : bW D g A s H locs [mW g adM kM tM M62] := hW
                  obtain ⟨h63, hf⟩ := o_cs hf
                  cases hf
                  exact b_zret hx hb hr hlk hE hW () rfl trivial rfl h63 dX3_writeTold_71
  exact L2 _ _ _ _ _ _ _ hW (lv_sub hl [0, 1, 2] rfl) hf
