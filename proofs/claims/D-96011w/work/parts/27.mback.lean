/-! The Model: back(): printed by gen/all.py -/
set_option maxRecDepth 100000
def f_X3_back_n (M : BC) : Option (Int32 × BC) :=
 o_b2 (f_X3_refuse M (-5)) fun (r1 : Int32) (M2 : BC) =>
 some (r1, M2)
abbrev rm_X3_back_n : Room := { frames := 1, cells := 0, slots := 0, locals := 21 }
set_option maxHeartbeats 4000000 in
set_option maxRecDepth 100000 in
theorem m_X3_back_n (l : Launch) (D : va_G) (g : Nat → ClassId) (sz : Nat) (adM : Nat → Nat) (tM : Option Nat) (M : BC) (rO : Int32) (MO : BC) (hf : f_X3_back_n M = some (rO, MO)) : bMet (S := Unit) l yX3_back (ws_ yX3_back cX3_back 2 (some .int)) rm_X3_back_n D g sz [.ref (adM 0)] [mW g adM none tM M] (fun _ => True) (fun _ => some (.int rO)) (fun _ => [mW g adM none tM MO]) := by
  refine b_met (by decide) (Nat.le_of_ble_eq_true rfl) ?_
  intro p e s m args below meth c A Q ls hx hb hml hr hlk hown hname hts hE hl hW
  revert hW; generalize s.heap = H; intro hW
  have hl : lv_has ls 2 [(0, .ref (adM 0))] := hl
  rw [f_X3_back_n] at hf
  refine lv_aload_n hx hb dX3_back_0 rfl (lv_at hl 0 rfl) ?_
  refine b_get hx hb hts in_X3 hown hW 0 0 3 16 rfl mW_0 rfl (by decide) ⟨rfl, rfl, rfl⟩ (hts _ q1475) mW_g16 dX3_back_1 ?_
  refine lv_ifnonnullN hx hb dX3_back_4 ?_
  refine lv_aload_n hx hb dX3_back_7 rfl (lv_at hl 0 rfl) ?_
  refine lv_bipush (v := (-5)) hx hb dX3_back_8 (by decide) ?_
  obtain ⟨r1, M2, hc2, hf⟩ := o_b2s hf
  have hp2 : List.Perm [mW g adM none tM M] ([mW g adM none tM M] ++ []) := b_perm [0] [] 1 rfl rfl rfl rfl
  refine b_call0 ⟨rfl, rfl⟩ (va_runV (As := [.int (-5)]) (rest := []) ⟨hx, hb, hml, hown, hts⟩ (m_X3_refuse l D g H.size adM none tM M (-5) r1 M2 hc2) (cwV 1 hts (lw_V q1572 q1574 qs33 q79 q1575) rfl rfl rfl (by decide +kernel) ⟨Nat.le_of_ble_eq_true rfl, Nat.le_of_ble_eq_true rfl⟩) (b_preV (pp := 0) (q := 0) hW hp2 rfl mW_0 rfl) rfl rfl hl.1 rfl (lv_room (Nat.le_of_ble_eq_true rfl)) dX3_back_10 ⟨Nat.le_of_ble_eq_true rfl, Nat.le_of_ble_eq_true rfl⟩) hW hp2 (fun _ _ H locs hW => ?_)
  have hW : bW D g A s H locs [mW g adM none tM M2] := hW
  cases hf
  exact b_iret hx hb hr hlk hE hW () rfl trivial rfl dX3_back_13
def f_X3_back_s_L24  (rec2 : (Int32 × BC) → Option (Int32 × BC)) : Int32 × BC → Option (Int32 × BC)
  | (v3, M4) =>
    (if (8 : Int32) ≤ v3 then
     some (1, M4)
     else
     o_ck (inB v3 8) ((if (M4.1 1 (ix v3)) = 2 then
     (if (M4.1 14 (ix v3)) < (M4.1 0 2) then
     o_lt (v3 + 1) fun (v10 : Int32) =>
     rec2 (v10, M4)
     else
     o_lt (bI M4 1 (upd (M4.1 1) (ix v3) 0)) fun (M11 : BC) =>
     o_lt (v3 + 1) fun (v12 : Int32) =>
     rec2 (v12, M11))
     else
     o_lt (v3 + 1) fun (v8 : Int32) =>
     rec2 (v8, M4))))
def f_X3_back_s (fu : Nat) (M : BC) (Y : BC) : Option (Int32 × BC) :=
 o_b1 (f_X3_takeFrom fu M Y) fun (M1 : BC) =>
 o_lp (f_X3_back_s_L24) fu (0, M1)
abbrev rm_X3_back_s : Room := { frames := 2, cells := 0, slots := 0, locals := 44 }
set_option maxHeartbeats 4000000 in
set_option maxRecDepth 100000 in
theorem m_X3_back_s (l : Launch) (D : va_G) (g : Nat → ClassId) (sz : Nat) (adM : Nat → Nat) (tM : Option Nat) (adY : Nat → Nat) (kY : Option Nat) (tY : Option Nat) (fu : Nat) (M : BC) (Y : BC) (rO : Int32) (MO : BC) (hf : f_X3_back_s fu M Y = some (rO, MO)) : bMet (S := Unit) l yX3_back (ws_ yX3_back cX3_back 2 (some .int)) rm_X3_back_s D g sz [.ref (adM 0)] [mW g adM (some (adY 0)) tM M, mW g adY kY tY Y] (fun _ => True) (fun _ => some (.int rO)) (fun _ => [mW g adM (some (adY 0)) tM MO, mW g adY kY tY Y]) := by
  refine b_met (by decide) (Nat.le_of_ble_eq_true rfl) ?_
  intro p e s m args below meth c A Q ls hx hb hml hr hlk hown hname hts hE hl hW
  revert hW; generalize s.heap = H; intro hW
  have hl : lv_has ls 2 [(0, .ref (adM 0))] := hl
  rw [f_X3_back_s] at hf
  refine lv_aload_n hx hb dX3_back_0 rfl (lv_at hl 0 rfl) ?_
  refine b_get hx hb hts in_X3 hown hW 0 0 3 16 rfl mW_0 rfl (by decide) ⟨rfl, rfl, rfl⟩ (hts _ q1475) mW_g16 dX3_back_1 ?_
  refine lv_ifnonnull (tgt := 14) hx hb dX3_back_4 (by decide) ?_
  refine lv_aload_n hx hb dX3_back_14 rfl (lv_at hl 0 rfl) ?_
  refine lv_aload_n hx hb dX3_back_15 rfl (lv_at hl 0 rfl) ?_
  refine b_get hx hb hts in_X3 hown hW 0 0 3 16 rfl mW_0 rfl (by decide) ⟨rfl, rfl, rfl⟩ (hts _ q1475) mW_g16 dX3_back_16 ?_
  obtain ⟨M1, hc1, hf⟩ := o_b1s hf
  have hp1 : List.Perm [mW g adM (some (adY 0)) tM M, mW g adY kY tY Y] ([mW g adM (some (adY 0)) tM M, mW g adY kY tY Y] ++ []) := b_perm [0, 1] [] 2 rfl rfl rfl rfl
  refine b_call0 ⟨rfl, rfl⟩ (va_runV (As := [.ref (adY 0)]) (rest := []) ⟨hx, hb, hml, hown, hts⟩ (m_X3_takeFrom l D g H.size adM (some (adY 0)) tM adY kY tY fu M Y M1 hc1) (cwV 1 hts (lw_V q1707 q1709 qs46 q79 q1710) rfl rfl rfl (by decide +kernel) ⟨Nat.le_of_ble_eq_true rfl, Nat.le_of_ble_eq_true rfl⟩) (b_preV (pp := 0) (q := 0) hW hp1 rfl mW_0 rfl) rfl rfl hl.1 rfl (lv_room (Nat.le_of_ble_eq_true rfl)) dX3_back_19 ⟨Nat.le_of_ble_eq_true rfl, Nat.le_of_ble_eq_true rfl⟩) hW hp1 (fun _ _ H locs hW => ?_)
  have hW : bW D g A s H locs [mW g adM (some (adY 0)) tM M1, mW g adY kY tY Y] := hW
  refine lv_iconst (v := 0) hx hb dX3_back_22 (by decide) ?_
  refine lv_istore_n (lv' := [(1, .int 0), (0, .ref (adM 0))]) hx hb dX3_back_23 rfl hl (by decide) rfl (fun ls hl => ?_)
  obtain ⟨stp2, est2, hf⟩ := o_ln hf
  have L2 : ∀ (n : Nat) (v3 : Int32) (M4 : BC) (H : Heap) (locs : List Loc) (ls : Array Slot), bW D g A s H locs [mW g adM (some (adY 0)) tM M4, mW g adY kY tY Y] → lv_has ls 2 [(1, .int v3), (0, .ref (adM 0))] → o_lp stp2 n (v3, M4) = some (rO, MO) → W p l e rm_X3_back_s s m args below meth c H locs 0 0 Q (F0 m 24 ls []) := by
    intro n2
    induction n2 with
    | zero => intro v3 M4 H locs ls hW hl hf; exact (o_lz hf).elim
    | succ n2 ih2 =>
      intro v3 M4 H locs ls hW hl hf
      have hf := o_lu est2 hf
      rw [f_X3_back_s_L24] at hf
      refine lv_iload_n hx hb dX3_back_24 rfl (lv_at hl 0 rfl) ?_
      refine lv_bipush (v := 8) hx hb dX3_back_25 (by decide) ?_
      refine lv_icmp_ge (tgt := 66) hx hb dX3_back_27 (by decide) (fun c5 => ?_) (fun c5 => ?_)
      · have hf := o_t hf c5
        refine lv_iconst (v := 1) hx hb dX3_back_66 (by decide) ?_
        cases hf
        exact b_iret hx hb hr hlk hE hW () rfl trivial rfl dX3_back_67
      · have hf := o_f hf c5
        refine lv_aload_n hx hb dX3_back_30 rfl (lv_at hl 1 rfl) ?_
        refine b_get hx hb hts in_X3 hown hW 0 0 3 0 rfl mW_0 rfl (by decide) ⟨rfl, rfl, rfl⟩ (hts _ q1459) mW_g0 dX3_back_31 ?_
        refine lv_iload_n hx hb dX3_back_34 rfl (lv_at hl 0 rfl) ?_
        obtain ⟨h6, hf⟩ := o_cs hf
        refine b_iald hx hb hW 0 1 rfl mW_1 h6 dX3_back_35 ?_
        refine lv_iconst (v := 2) hx hb dX3_back_36 (by decide) ?_
        refine lv_icmp_ne (tgt := 60) hx hb dX3_back_37 (by decide) (fun c7 => ?_) (fun c7 => ?_)
        · have hf := o_f hf c7
          obtain ⟨v8, ev8, hf⟩ := o_ls hf
          refine lv_iinc (v := v8) (lv' := [(1, .int v8), (0, .ref (adM 0))]) hx hb dX3_back_60 hl (k := 0) rfl ev8 (by decide) rfl (fun ls hl => ?_)
          refine lv_goto (tgt := 24) hx hb dX3_back_63 (by decide) ?_
          exact ih2 _ _ _ _ _ hW (lv_sub hl [0, 1] rfl) hf
        · have hf := o_t hf c7
          refine lv_aload_n hx hb dX3_back_40 rfl (lv_at hl 1 rfl) ?_
          refine b_get hx hb hts in_X3 hown hW 0 0 3 5 rfl mW_0 rfl (by decide) ⟨rfl, rfl, rfl⟩ (hts _ q1464) mW_g5 dX3_back_41 ?_
          refine lv_iload_n hx hb dX3_back_44 rfl (lv_at hl 0 rfl) ?_
          refine b_iald hx hb hW 0 14 rfl mW_14 h6 dX3_back_45 ?_
          refine lv_aload_n hx hb dX3_back_46 rfl (lv_at hl 1 rfl) ?_
          refine b_get hx hb hts in_X3 hown hW 0 0 3 11 rfl mW_0 rfl (by decide) ⟨rfl, rfl, rfl⟩ (hts _ q1470) mW_g11 dX3_back_47 ?_
          refine lv_icmp_lt (tgt := 60) hx hb dX3_back_50 (by decide) (fun c9 => ?_) (fun c9 => ?_)
          · have hf := o_t hf c9
            obtain ⟨v10, ev10, hf⟩ := o_ls hf
            refine lv_iinc (v := v10) (lv' := [(1, .int v10), (0, .ref (adM 0))]) hx hb dX3_back_60 hl (k := 0) rfl ev10 (by decide) rfl (fun ls hl => ?_)
            refine lv_goto (tgt := 24) hx hb dX3_back_63 (by decide) ?_
            exact ih2 _ _ _ _ _ hW (lv_sub hl [0, 1] rfl) hf
          · have hf := o_f hf c9
            refine lv_aload_n hx hb dX3_back_53 rfl (lv_at hl 1 rfl) ?_
            refine b_get hx hb hts in_X3 hown hW 0 0 3 0 rfl mW_0 rfl (by decide) ⟨rfl, rfl, rfl⟩ (hts _ q1459) mW_g0 dX3_back_54 ?_
            refine lv_iload_n hx hb dX3_back_57 rfl (lv_at hl 0 rfl) ?_
            refine lv_iconst (v := 0) hx hb dX3_back_58 (by decide) ?_
            obtain ⟨M11, eM11, hf⟩ := o_ls hf
            refine b_iast hx hb hW 0 1 rfl mW_1 (mW_s1 eM11) rfl h6 dX3_back_59 (fun H locs hW => ?_)
            have hW : bW D g A s H locs [mW g adM (some (adY 0)) tM M11, mW g adY kY tY Y] := hW
            obtain ⟨v12, ev12, hf⟩ := o_ls hf
            refine lv_iinc (v := v12) (lv' := [(1, .int v12), (0, .ref (adM 0))]) hx hb dX3_back_60 hl (k := 0) rfl ev12 (by decide) rfl (fun ls hl => ?_)
            refine lv_goto (tgt := 24) hx hb dX3_back_63 (by decide) ?_
            exact ih2 _ _ _ _ _ hW (lv_sub hl [0, 1] rfl) hf
  exact L2 _ _ _ _ _ _ hW (lv_sub hl [0, 1] rfl) hf
