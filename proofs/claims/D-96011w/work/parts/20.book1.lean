/-! EverybodyHasTheBook, first half: printed by gen/all.py -/
set_option maxRecDepth 100000
def f_J11_bitCount (x1 : Int32) : Option Int32 :=
 o_lt (x1 - (((x1.toUInt32 >>> ((1 : Int32).toUInt32 &&& Int32.toUInt32 31)).toInt32) &&& 1431655765)) fun (v1 : Int32) =>
 o_lt ((v1 &&& 858993459) + (((v1.toUInt32 >>> ((2 : Int32).toUInt32 &&& Int32.toUInt32 31)).toInt32) &&& 858993459)) fun (v2 : Int32) =>
 o_lt ((v2 + ((v2.toUInt32 >>> ((4 : Int32).toUInt32 &&& Int32.toUInt32 31)).toInt32)) &&& 252645135) fun (v3 : Int32) =>
 o_lt (v3 + ((v3.toUInt32 >>> ((8 : Int32).toUInt32 &&& Int32.toUInt32 31)).toInt32)) fun (v4 : Int32) =>
 o_lt (v4 + ((v4.toUInt32 >>> ((16 : Int32).toUInt32 &&& Int32.toUInt32 31)).toInt32)) fun (v5 : Int32) =>
 some (v5 &&& 63)
abbrev rm_J11_bitCount : Room := { frames := 0, cells := 0, slots := 0, locals := 0 }
set_option maxHeartbeats 4000000 in
set_option maxRecDepth 100000 in
theorem m_J11_bitCount (l : Launch) (D : va_G) (g : Nat → ClassId) (sz : Nat)  (x1 : Int32) (rO : Int32) (hf : f_J11_bitCount x1 = some rO) : bMet (S := Unit) l yJ11_bitCount (ws_ yJ11_bitCount cJ11_bitCount 1 (some .int)) rm_J11_bitCount D g sz [.int x1] [] (fun _ => True) (fun _ => some (.int rO)) (fun _ => []) := by
  refine b_met (by decide) (Nat.le_of_ble_eq_true rfl) ?_
  intro p e s m args below meth c A Q ls hx hb hml hr hlk hown hname hts hE hl hW
  revert hW; generalize s.heap = H; intro hW
  have hl : lv_has ls 1 [(0, .int x1)] := hl
  rw [f_J11_bitCount] at hf
  refine lv_iload_n hx hb dJ11_bitCount_0 rfl (lv_at hl 0 rfl) ?_
  refine lv_iload_n hx hb dJ11_bitCount_1 rfl (lv_at hl 0 rfl) ?_
  refine lv_iconst (v := 1) hx hb dJ11_bitCount_2 (by decide) ?_
  refine lv_iushr hx hb dJ11_bitCount_3 rfl ?_
  refine lv_ldcw (v := 1431655765) hx hb hown (hts _ q693) dJ11_bitCount_4 ?_
  refine lv_iand hx hb dJ11_bitCount_7 ?_
  refine lv_isub hx hb dJ11_bitCount_8 ?_
  obtain ⟨v1, ev1, hf⟩ := o_ls hf
  refine b_topi ev1 ?_
  refine lv_istore_n (lv' := [(0, .int v1)]) hx hb dJ11_bitCount_9 rfl hl (by decide) rfl (fun ls hl => ?_)
  refine lv_iload_n hx hb dJ11_bitCount_10 rfl (lv_at hl 0 rfl) ?_
  refine lv_ldcw (v := 858993459) hx hb hown (hts _ q694) dJ11_bitCount_11 ?_
  refine lv_iand hx hb dJ11_bitCount_14 ?_
  refine lv_iload_n hx hb dJ11_bitCount_15 rfl (lv_at hl 0 rfl) ?_
  refine lv_iconst (v := 2) hx hb dJ11_bitCount_16 (by decide) ?_
  refine lv_iushr hx hb dJ11_bitCount_17 rfl ?_
  refine lv_ldcw (v := 858993459) hx hb hown (hts _ q694) dJ11_bitCount_18 ?_
  refine lv_iand hx hb dJ11_bitCount_21 ?_
  refine lv_iadd hx hb dJ11_bitCount_22 ?_
  obtain ⟨v2, ev2, hf⟩ := o_ls hf
  refine b_topi ev2 ?_
  refine lv_istore_n (lv' := [(0, .int v2)]) hx hb dJ11_bitCount_23 rfl hl (by decide) rfl (fun ls hl => ?_)
  refine lv_iload_n hx hb dJ11_bitCount_24 rfl (lv_at hl 0 rfl) ?_
  refine lv_iload_n hx hb dJ11_bitCount_25 rfl (lv_at hl 0 rfl) ?_
  refine lv_iconst (v := 4) hx hb dJ11_bitCount_26 (by decide) ?_
  refine lv_iushr hx hb dJ11_bitCount_27 rfl ?_
  refine lv_iadd hx hb dJ11_bitCount_28 ?_
  refine lv_ldcw (v := 252645135) hx hb hown (hts _ q695) dJ11_bitCount_29 ?_
  refine lv_iand hx hb dJ11_bitCount_32 ?_
  obtain ⟨v3, ev3, hf⟩ := o_ls hf
  refine b_topi ev3 ?_
  refine lv_istore_n (lv' := [(0, .int v3)]) hx hb dJ11_bitCount_33 rfl hl (by decide) rfl (fun ls hl => ?_)
  refine lv_iload_n hx hb dJ11_bitCount_34 rfl (lv_at hl 0 rfl) ?_
  refine lv_iload_n hx hb dJ11_bitCount_35 rfl (lv_at hl 0 rfl) ?_
  refine lv_bipush (v := 8) hx hb dJ11_bitCount_36 (by decide) ?_
  refine lv_iushr hx hb dJ11_bitCount_38 rfl ?_
  refine lv_iadd hx hb dJ11_bitCount_39 ?_
  obtain ⟨v4, ev4, hf⟩ := o_ls hf
  refine b_topi ev4 ?_
  refine lv_istore_n (lv' := [(0, .int v4)]) hx hb dJ11_bitCount_40 rfl hl (by decide) rfl (fun ls hl => ?_)
  refine lv_iload_n hx hb dJ11_bitCount_41 rfl (lv_at hl 0 rfl) ?_
  refine lv_iload_n hx hb dJ11_bitCount_42 rfl (lv_at hl 0 rfl) ?_
  refine lv_bipush (v := 16) hx hb dJ11_bitCount_43 (by decide) ?_
  refine lv_iushr hx hb dJ11_bitCount_45 rfl ?_
  refine lv_iadd hx hb dJ11_bitCount_46 ?_
  obtain ⟨v5, ev5, hf⟩ := o_ls hf
  refine b_topi ev5 ?_
  refine lv_istore_n (lv' := [(0, .int v5)]) hx hb dJ11_bitCount_47 rfl hl (by decide) rfl (fun ls hl => ?_)
  refine lv_iload_n hx hb dJ11_bitCount_48 rfl (lv_at hl 0 rfl) ?_
  refine lv_bipush (v := 63) hx hb dJ11_bitCount_49 (by decide) ?_
  refine lv_iand hx hb dJ11_bitCount_51 ?_
  cases hf
  exact b_iret hx hb hr hlk hE hW () rfl trivial rfl dJ11_bitCount_52
def f_X0_summed_L4 (A : Nat → Int32) (An : Nat) (x2 : Int32) (rec1 : (Int32 × Int32) → Option Int32) : Int32 × Int32 → Option Int32
  | (v2, v3) =>
    (if x2 ≤ v3 then
     some v2
     else
     o_ck (inB v3 An) (o_lt (v2 + (A (ix v3))) fun (v6 : Int32) =>
     o_lt (v3 + 1) fun (v7 : Int32) =>
     rec1 (v6, v7)))
def f_X0_summed (fu : Nat) (A : Nat → Int32) (An : Nat) (x2 : Int32) : Option Int32 :=
 o_lp (f_X0_summed_L4 A An x2) fu (0, 0)
abbrev rm_X0_summed : Room := { frames := 0, cells := 0, slots := 0, locals := 0 }
set_option maxHeartbeats 4000000 in
set_option maxRecDepth 100000 in
theorem m_X0_summed (l : Launch) (D : va_G) (g : Nat → ClassId) (sz : Nat)  (wA : va_W) (Aq Aa : Nat) (fu : Nat) (A : Nat → Int32) (An : Nat) (x2 : Int32) (rO : Int32) (Ah : wA[Aq]? = some (Aa, .inl (g 0, An, .inl A))) (hf : f_X0_summed fu A An x2 = some rO) : bMet (S := Unit) l yX0_summed (ws_ yX0_summed cX0_summed 4 (some .int)) rm_X0_summed D g sz [.ref Aa, .int x2] [wA] (fun _ => True) (fun _ => some (.int rO)) (fun _ => [wA]) := by
  refine b_met (by decide) (Nat.le_of_ble_eq_true rfl) ?_
  intro p e s m args below meth c A Q ls hx hb hml hr hlk hown hname hts hE hl hW
  revert hW; generalize s.heap = H; intro hW
  have hl : lv_has ls 4 [(0, .ref Aa), (1, .int x2)] := hl
  rw [f_X0_summed] at hf
  refine lv_iconst (v := 0) hx hb dX0_summed_0 (by decide) ?_
  refine lv_istore_n (lv' := [(2, .int 0), (0, .ref Aa), (1, .int x2)]) hx hb dX0_summed_1 rfl hl (by decide) rfl (fun ls hl => ?_)
  refine lv_iconst (v := 0) hx hb dX0_summed_2 (by decide) ?_
  refine lv_istore_n (lv' := [(3, .int 0), (2, .int 0), (0, .ref Aa), (1, .int x2)]) hx hb dX0_summed_3 rfl hl (by decide) rfl (fun ls hl => ?_)
  obtain ⟨stp1, est1, hf⟩ := o_ln hf
  have L1 : ∀ (n : Nat) (v2 : Int32) (v3 : Int32) (H : Heap) (locs : List Loc) (ls : Array Slot), bW D g A s H locs [wA] → lv_has ls 4 [(3, .int v3), (2, .int v2), (0, .ref Aa), (1, .int x2)] → o_lp stp1 n (v2, v3) = some rO → W p l e rm_X0_summed s m args below meth c H locs 0 0 Q (F0 m 4 ls []) := by
    intro n1
    induction n1 with
    | zero => intro v2 v3 H locs ls hW hl hf; exact (o_lz hf).elim
    | succ n1 ih1 =>
      intro v2 v3 H locs ls hW hl hf
      have hf := o_lu est1 hf
      rw [f_X0_summed_L4] at hf
      refine lv_iload_n hx hb dX0_summed_4 rfl (lv_at hl 0 rfl) ?_
      refine lv_iload_n hx hb dX0_summed_5 rfl (lv_at hl 3 rfl) ?_
      refine lv_icmp_ge (tgt := 21) hx hb dX0_summed_6 (by decide) (fun c4 => ?_) (fun c4 => ?_)
      · have hf := o_t hf c4
        refine lv_iload_n hx hb dX0_summed_21 rfl (lv_at hl 1 rfl) ?_
        cases hf
        exact b_iret hx hb hr hlk hE hW () rfl trivial rfl dX0_summed_22
      · have hf := o_f hf c4
        refine lv_iload_n hx hb dX0_summed_9 rfl (lv_at hl 1 rfl) ?_
        refine lv_aload_n hx hb dX0_summed_10 rfl (lv_at hl 2 rfl) ?_
        refine lv_iload_n hx hb dX0_summed_11 rfl (lv_at hl 0 rfl) ?_
        obtain ⟨h5, hf⟩ := o_cs hf
        refine b_iald hx hb hW 0 Aq rfl Ah h5 dX0_summed_12 ?_
        refine lv_iadd hx hb dX0_summed_13 ?_
        obtain ⟨v6, ev6, hf⟩ := o_ls hf
        refine b_topi ev6 ?_
        refine lv_istore_n (lv' := [(2, .int v6), (3, .int v3), (0, .ref Aa), (1, .int x2)]) hx hb dX0_summed_14 rfl hl (by decide) rfl (fun ls hl => ?_)
        obtain ⟨v7, ev7, hf⟩ := o_ls hf
        refine lv_iinc (v := v7) (lv' := [(3, .int v7), (2, .int v6), (0, .ref Aa), (1, .int x2)]) hx hb dX0_summed_15 hl (k := 1) rfl ev7 (by decide) rfl (fun ls hl => ?_)
        refine lv_goto (tgt := 4) hx hb dX0_summed_18 (by decide) ?_
        exact ih1 _ _ _ _ _ hW (lv_sub hl [0, 1, 2, 3] rfl) hf
  exact L1 _ _ _ _ _ _ hW (lv_sub hl [0, 1, 2, 3] rfl) hf
def f_X0_takes_L5 (L : List Nat) (kd : Nat → Nat) (nu : Nat → Int32) (aa : Nat → Int32) (x2 : Int32) (x3 : Int32) (fu : Nat) (rec1 : (Int32 × Int32 × BC) → Option (Int32 × BC)) : Int32 × Int32 × BC → Option (Int32 × BC)
  | (v2, v3, V4) =>
    (if x2 ≤ v3 then
     some (v2, V4)
     else
     o_b1 (f_X1_night fu V4 L kd nu aa) fun (V6 : BC) =>
     o_ck (inB x3 6) (o_lt (v2 + ((V6.1 17 (ix x3)) * (V6.1 4 (ix x3)))) fun (v8 : Int32) =>
     o_b1 (f_X1_ages fu V6) fun (V9 : BC) =>
     o_lt (v3 + 1) fun (v10 : Int32) =>
     rec1 (v8, v10, V9)))
def f_X0_takes (fu : Nat) (V : BC) (L : List Nat) (kd : Nat → Nat) (nu : Nat → Int32) (aa : Nat → Int32) (x2 : Int32) (x3 : Int32) : Option (Int32 × BC) :=
 o_lp (f_X0_takes_L5 L kd nu aa x2 x3 fu) fu (0, 0, V)
abbrev rm_X0_takes : Room := { frames := 7, cells := 0, slots := 0, locals := 164 }
set_option maxHeartbeats 4000000 in
set_option maxRecDepth 100000 in
theorem m_X0_takes (l : Launch) (D : va_G) (g : Nat → ClassId) (sz : Nat) (adV : Nat → Nat) (fu : Nat) (V : BC) (L : List Nat) (kd : Nat → Nat) (nu : Nat → Int32) (aa : Nat → Int32) (x2 : Int32) (x3 : Int32) (rO : Int32) (VO : BC) (hf : f_X0_takes fu V L kd nu aa x2 x3 = some (rO, VO)) : bMet (S := Unit) l yX0_takes (ws_ yX0_takes cX0_takes 5 (some .int)) rm_X0_takes D g sz [.ref (adV 0), .int x2, .int x3] [vW g adV V, gW L kd nu aa] (fun _ => True) (fun _ => some (.int rO)) (fun _ => [vW g adV VO, gW L kd nu aa]) := by
  refine b_met (by decide) (Nat.le_of_ble_eq_true rfl) ?_
  intro p e s m args below meth c A Q ls hx hb hml hr hlk hown hname hts hE hl hW
  revert hW; generalize s.heap = H; intro hW
  have hl : lv_has ls 5 [(0, .ref (adV 0)), (1, .int x2), (2, .int x3)] := hl
  rw [f_X0_takes] at hf
  refine lv_iconst (v := 0) hx hb dX0_takes_0 (by decide) ?_
  refine lv_istore_n (lv' := [(3, .int 0), (0, .ref (adV 0)), (1, .int x2), (2, .int x3)]) hx hb dX0_takes_1 rfl hl (by decide) rfl (fun ls hl => ?_)
  refine lv_iconst (v := 0) hx hb dX0_takes_2 (by decide) ?_
  refine lv_istore (lv' := [(4, .int 0), (3, .int 0), (0, .ref (adV 0)), (1, .int x2), (2, .int x3)]) hx hb dX0_takes_3 hl (by decide) rfl (fun ls hl => ?_)
  obtain ⟨stp1, est1, hf⟩ := o_ln hf
  have L1 : ∀ (n : Nat) (v2 : Int32) (v3 : Int32) (V4 : BC) (H : Heap) (locs : List Loc) (ls : Array Slot), bW D g A s H locs [vW g adV V4, gW L kd nu aa] → lv_has ls 5 [(4, .int v3), (3, .int v2), (0, .ref (adV 0)), (1, .int x2), (2, .int x3)] → o_lp stp1 n (v2, v3, V4) = some (rO, VO) → W p l e rm_X0_takes s m args below meth c H locs 0 0 Q (F0 m 5 ls []) := by
    intro n1
    induction n1 with
    | zero => intro v2 v3 V4 H locs ls hW hl hf; exact (o_lz hf).elim
    | succ n1 ih1 =>
      intro v2 v3 V4 H locs ls hW hl hf
      have hf := o_lu est1 hf
      rw [f_X0_takes_L5] at hf
      refine lv_iload hx hb dX0_takes_5 (lv_at hl 0 rfl) ?_
      refine lv_iload_n hx hb dX0_takes_7 rfl (lv_at hl 3 rfl) ?_
      refine lv_icmp_ge (tgt := 40) hx hb dX0_takes_8 (by decide) (fun c5 => ?_) (fun c5 => ?_)
      · have hf := o_t hf c5
        refine lv_iload_n hx hb dX0_takes_40 rfl (lv_at hl 1 rfl) ?_
        cases hf
        exact b_iret hx hb hr hlk hE hW () rfl trivial rfl dX0_takes_41
      · have hf := o_f hf c5
        refine lv_iload_n hx hb dX0_takes_11 rfl (lv_at hl 1 rfl) ?_
        refine lv_aload_n hx hb dX0_takes_12 rfl (lv_at hl 2 rfl) ?_
        obtain ⟨V6, hc6, hf⟩ := o_b1s hf
        have hp6 : List.Perm [vW g adV V4, gW L kd nu aa] ([vW g adV V4, gW L kd nu aa] ++ []) := b_perm [0, 1] [] 2 rfl rfl rfl rfl
        refine b_call0 ⟨rfl, rfl⟩ (va_runV (As := []) (rest := [.int v2]) ⟨hx, hb, hml, hown, hts⟩ (m_X1_night l D g H.size adV fu V4 L kd nu aa V6 hc6) (cwV 0 hts (lw_V q1135 q1136 q1137 q77 q1138) rfl rfl rfl (by decide +kernel) ⟨Nat.le_of_ble_eq_true rfl, Nat.le_of_ble_eq_true rfl⟩) (b_preV (pp := 0) (q := 0) hW hp6 rfl vW_0 rfl) rfl rfl hl.1 rfl (lv_room (Nat.le_of_ble_eq_true rfl)) dX0_takes_13 ⟨Nat.le_of_ble_eq_true rfl, Nat.le_of_ble_eq_true rfl⟩) hW hp6 (fun _ _ H locs hW => ?_)
        have hW : bW D g A s H locs [vW g adV V6, gW L kd nu aa] := hW
        refine b_get hx hb hts in_X1 hown hW 0 0 1 10 rfl vW_0 rfl (by decide) ⟨rfl, rfl, rfl⟩ (hts _ q160) vW_g10 dX0_takes_16 ?_
        refine lv_iload_n hx hb dX0_takes_19 rfl (lv_at hl 4 rfl) ?_
        obtain ⟨h7, hf⟩ := o_cs hf
        refine b_iald hx hb hW 0 17 rfl vW_17 h7 dX0_takes_20 ?_
        refine lv_aload_n hx hb dX0_takes_21 rfl (lv_at hl 2 rfl) ?_
        refine b_get hx hb hts in_X1 hown hW 0 0 1 3 rfl vW_0 rfl (by decide) ⟨rfl, rfl, rfl⟩ (hts _ q139) vW_g3 dX0_takes_22 ?_
        refine lv_iload_n hx hb dX0_takes_25 rfl (lv_at hl 4 rfl) ?_
        refine b_iald hx hb hW 0 4 rfl vW_4 h7 dX0_takes_26 ?_
        refine lv_imul hx hb dX0_takes_27 ?_
        refine lv_iadd hx hb dX0_takes_28 ?_
        obtain ⟨v8, ev8, hf⟩ := o_ls hf
        refine b_topi ev8 ?_
        refine lv_istore_n (lv' := [(3, .int v8), (4, .int v3), (0, .ref (adV 0)), (1, .int x2), (2, .int x3)]) hx hb dX0_takes_29 rfl hl (by decide) rfl (fun ls hl => ?_)
        refine lv_aload_n hx hb dX0_takes_30 rfl (lv_at hl 2 rfl) ?_
        obtain ⟨V9, hc9, hf⟩ := o_b1s hf
        have hp9 : List.Perm [vW g adV V6, gW L kd nu aa] ([vW g adV V6] ++ [gW L kd nu aa]) := b_perm [0] [1] 2 rfl rfl rfl rfl
        refine b_call0 ⟨rfl, rfl⟩ (va_runV (As := []) (rest := []) ⟨hx, hb, hml, hown, hts⟩ (m_X1_ages l D g H.size adV fu V6 V9 hc9) (cwV 0 hts (lw_V q1297 q1281 q1282 q77 q1283) rfl rfl rfl (by decide +kernel) ⟨Nat.le_of_ble_eq_true rfl, Nat.le_of_ble_eq_true rfl⟩) (b_preV (pp := 0) (q := 0) hW hp9 rfl vW_0 rfl) rfl rfl hl.1 rfl (lv_room (Nat.le_of_ble_eq_true rfl)) dX0_takes_31 ⟨Nat.le_of_ble_eq_true rfl, Nat.le_of_ble_eq_true rfl⟩) hW hp9 (fun _ _ H locs hW => ?_)
        have hW : bW D g A s H locs [vW g adV V9, gW L kd nu aa] := hW
        obtain ⟨v10, ev10, hf⟩ := o_ls hf
        refine lv_iinc (v := v10) (lv' := [(4, .int v10), (3, .int v8), (0, .ref (adV 0)), (1, .int x2), (2, .int x3)]) hx hb dX0_takes_34 hl (k := 1) rfl ev10 (by decide) rfl (fun ls hl => ?_)
        refine lv_goto (tgt := 5) hx hb dX0_takes_37 (by decide) ?_
        exact ih1 _ _ _ _ _ _ hW (lv_sub hl [0, 1, 2, 3, 4] rfl) hf
  exact L1 _ _ _ _ _ _ _ hW (lv_sub hl [0, 1, 2, 3, 4] rfl) hf
def f_X0_stays_L3 (L : List Nat) (kd : Nat → Nat) (nu : Nat → Int32) (aa : Nat → Int32) (x2 : Int32) (x3 : Int32) (x4 : Int32) (fu : Nat) (rec1 : (Int32 × BC) → Option (Int32 × BC)) : Int32 × BC → Option (Int32 × BC)
  | (v2, V3) =>
    (if x2 ≤ v2 then
     some (1, V3)
     else
     o_b1 (f_X1_night fu V3 L kd nu aa) fun (V5 : BC) =>
     o_b1 (f_X1_ages fu V5) fun (V6 : BC) =>
     o_ck (inB x3 6) ((if x4 ≤ (V6.1 1 (ix x3)) then
     o_lt (v2 + 1) fun (v9 : Int32) =>
     rec1 (v9, V6)
     else
     some (0, V6))))
def f_X0_stays (fu : Nat) (V : BC) (L : List Nat) (kd : Nat → Nat) (nu : Nat → Int32) (aa : Nat → Int32) (x2 : Int32) (x3 : Int32) (x4 : Int32) : Option (Int32 × BC) :=
 o_lp (f_X0_stays_L3 L kd nu aa x2 x3 x4 fu) fu (0, V)
abbrev rm_X0_stays : Room := { frames := 7, cells := 0, slots := 0, locals := 164 }
set_option maxHeartbeats 4000000 in
set_option maxRecDepth 100000 in
theorem m_X0_stays (l : Launch) (D : va_G) (g : Nat → ClassId) (sz : Nat) (adV : Nat → Nat) (fu : Nat) (V : BC) (L : List Nat) (kd : Nat → Nat) (nu : Nat → Int32) (aa : Nat → Int32) (x2 : Int32) (x3 : Int32) (x4 : Int32) (rO : Int32) (VO : BC) (hf : f_X0_stays fu V L kd nu aa x2 x3 x4 = some (rO, VO)) : bMet (S := Unit) l yX0_stays (ws_ yX0_stays cX0_stays 5 (some .boolean)) rm_X0_stays D g sz [.ref (adV 0), .int x2, .int x3, .int x4] [vW g adV V, gW L kd nu aa] (fun _ => True) (fun _ => some (.int rO)) (fun _ => [vW g adV VO, gW L kd nu aa]) := by
  refine b_met (by decide) (Nat.le_of_ble_eq_true rfl) ?_
  intro p e s m args below meth c A Q ls hx hb hml hr hlk hown hname hts hE hl hW
  revert hW; generalize s.heap = H; intro hW
  have hl : lv_has ls 5 [(0, .ref (adV 0)), (1, .int x2), (2, .int x3), (3, .int x4)] := hl
  rw [f_X0_stays] at hf
  refine lv_iconst (v := 0) hx hb dX0_stays_0 (by decide) ?_
  refine lv_istore (lv' := [(4, .int 0), (0, .ref (adV 0)), (1, .int x2), (2, .int x3), (3, .int x4)]) hx hb dX0_stays_1 hl (by decide) rfl (fun ls hl => ?_)
  obtain ⟨stp1, est1, hf⟩ := o_ln hf
  have L1 : ∀ (n : Nat) (v2 : Int32) (V3 : BC) (H : Heap) (locs : List Loc) (ls : Array Slot), bW D g A s H locs [vW g adV V3, gW L kd nu aa] → lv_has ls 5 [(4, .int v2), (0, .ref (adV 0)), (1, .int x2), (2, .int x3), (3, .int x4)] → o_lp stp1 n (v2, V3) = some (rO, VO) → W p l e rm_X0_stays s m args below meth c H locs 0 0 Q (F0 m 3 ls []) := by
    intro n1
    induction n1 with
    | zero => intro v2 V3 H locs ls hW hl hf; exact (o_lz hf).elim
    | succ n1 ih1 =>
      intro v2 V3 H locs ls hW hl hf
      have hf := o_lu est1 hf
      rw [f_X0_stays_L3] at hf
      refine lv_iload hx hb dX0_stays_3 (lv_at hl 0 rfl) ?_
      refine lv_iload_n hx hb dX0_stays_5 rfl (lv_at hl 2 rfl) ?_
      refine lv_icmp_ge (tgt := 34) hx hb dX0_stays_6 (by decide) (fun c4 => ?_) (fun c4 => ?_)
      · have hf := o_t hf c4
        refine lv_iconst (v := 1) hx hb dX0_stays_34 (by decide) ?_
        cases hf
        exact b_zret hx hb hr hlk hE hW () rfl trivial rfl (by decide) dX0_stays_35
      · have hf := o_f hf c4
        refine lv_aload_n hx hb dX0_stays_9 rfl (lv_at hl 1 rfl) ?_
        obtain ⟨V5, hc5, hf⟩ := o_b1s hf
        have hp5 : List.Perm [vW g adV V3, gW L kd nu aa] ([vW g adV V3, gW L kd nu aa] ++ []) := b_perm [0, 1] [] 2 rfl rfl rfl rfl
        refine b_call0 ⟨rfl, rfl⟩ (va_runV (As := []) (rest := []) ⟨hx, hb, hml, hown, hts⟩ (m_X1_night l D g H.size adV fu V3 L kd nu aa V5 hc5) (cwV 0 hts (lw_V q1135 q1136 q1137 q77 q1138) rfl rfl rfl (by decide +kernel) ⟨Nat.le_of_ble_eq_true rfl, Nat.le_of_ble_eq_true rfl⟩) (b_preV (pp := 0) (q := 0) hW hp5 rfl vW_0 rfl) rfl rfl hl.1 rfl (lv_room (Nat.le_of_ble_eq_true rfl)) dX0_stays_10 ⟨Nat.le_of_ble_eq_true rfl, Nat.le_of_ble_eq_true rfl⟩) hW hp5 (fun _ _ H locs hW => ?_)
        have hW : bW D g A s H locs [vW g adV V5, gW L kd nu aa] := hW
        obtain ⟨V6, hc6, hf⟩ := o_b1s hf
        have hp6 : List.Perm [vW g adV V5, gW L kd nu aa] ([vW g adV V5] ++ [gW L kd nu aa]) := b_perm [0] [1] 2 rfl rfl rfl rfl
        refine b_call0 ⟨rfl, rfl⟩ (va_runV (As := []) (rest := []) ⟨hx, hb, hml, hown, hts⟩ (m_X1_ages l D g H.size adV fu V5 V6 hc6) (cwV 0 hts (lw_V q1297 q1281 q1282 q77 q1283) rfl rfl rfl (by decide +kernel) ⟨Nat.le_of_ble_eq_true rfl, Nat.le_of_ble_eq_true rfl⟩) (b_preV (pp := 0) (q := 0) hW hp6 rfl vW_0 rfl) rfl rfl hl.1 rfl (lv_room (Nat.le_of_ble_eq_true rfl)) dX0_stays_13 ⟨Nat.le_of_ble_eq_true rfl, Nat.le_of_ble_eq_true rfl⟩) hW hp6 (fun _ _ H locs hW => ?_)
        have hW : bW D g A s H locs [vW g adV V6, gW L kd nu aa] := hW
        refine lv_aload_n hx hb dX0_stays_16 rfl (lv_at hl 1 rfl) ?_
        refine b_get hx hb hts in_X1 hown hW 0 0 1 0 rfl vW_0 rfl (by decide) ⟨rfl, rfl, rfl⟩ (hts _ q131) vW_g0 dX0_stays_17 ?_
        refine lv_iload_n hx hb dX0_stays_20 rfl (lv_at hl 3 rfl) ?_
        obtain ⟨h7, hf⟩ := o_cs hf
        refine b_iald hx hb hW 0 1 rfl vW_1 h7 dX0_stays_21 ?_
        refine lv_iload_n hx hb dX0_stays_22 rfl (lv_at hl 4 rfl) ?_
        refine lv_icmp_ge (tgt := 28) hx hb dX0_stays_23 (by decide) (fun c8 => ?_) (fun c8 => ?_)
        · have hf := o_t hf c8
          obtain ⟨v9, ev9, hf⟩ := o_ls hf
          refine lv_iinc (v := v9) (lv' := [(4, .int v9), (0, .ref (adV 0)), (1, .int x2), (2, .int x3), (3, .int x4)]) hx hb dX0_stays_28 hl (k := 0) rfl ev9 (by decide) rfl (fun ls hl => ?_)
          refine lv_goto (tgt := 3) hx hb dX0_stays_31 (by decide) ?_
          exact ih1 _ _ _ _ _ hW (lv_sub hl [0, 1, 2, 3, 4] rfl) hf
        · have hf := o_f hf c8
          refine lv_iconst (v := 0) hx hb dX0_stays_26 (by decide) ?_
          cases hf
          exact b_zret hx hb hr hlk hE hW () rfl trivial rfl (by decide) dX0_stays_27
  exact L1 _ _ _ _ _ _ hW (lv_sub hl [0, 1, 2, 3, 4] rfl) hf
def f_X0_no (X : BC) (x1 : Int32) : Option (Int32 × BC) :=
 o_ck (inB (-x1) 7) (o_lt ((X.1 11 (ix (-x1))) + 1) fun (v2 : Int32) =>
 o_lt (bI X 11 (upd (X.1 11) (ix (-x1)) v2)) fun (X3 : BC) =>
 some (x1, X3))
abbrev rm_X0_no : Room := { frames := 0, cells := 0, slots := 0, locals := 0 }
set_option maxHeartbeats 4000000 in
set_option maxRecDepth 100000 in
theorem m_X0_no (l : Launch) (D : va_G) (g : Nat → ClassId) (sz : Nat) (adX : Nat → Nat) (iX : Option Nat) (adN : Nat → Nat) (adT : Nat → Nat) (X : BC) (x1 : Int32) (rO : Int32) (XO : BC) (hf : f_X0_no X x1 = some (rO, XO)) : bMet (S := Unit) l yX0_no (ws_ yX0_no cX0_no 2 (some .int)) rm_X0_no D g sz [.ref (adX 0), .int x1] [xW g adX (adN 0) (adT 0) iX X] (fun _ => True) (fun _ => some (.int rO)) (fun _ => [xW g adX (adN 0) (adT 0) iX XO]) := by
  refine b_met (by decide) (Nat.le_of_ble_eq_true rfl) ?_
  intro p e s m args below meth c A Q ls hx hb hml hr hlk hown hname hts hE hl hW
  revert hW; generalize s.heap = H; intro hW
  have hl : lv_has ls 2 [(0, .ref (adX 0)), (1, .int x1)] := hl
  rw [f_X0_no] at hf
  refine lv_aload_n hx hb dX0_no_0 rfl (lv_at hl 0 rfl) ?_
  refine b_get hx hb hts in_X0 hown hW 0 0 0 6 rfl xW_0 rfl (by decide) ⟨rfl, rfl, rfl⟩ (hts _ q233) xW_g6 dX0_no_1 ?_
  refine lv_iload_n hx hb dX0_no_4 rfl (lv_at hl 1 rfl) ?_
  refine lv_ineg hx hb dX0_no_5 ?_
  refine lv_dup2_11 hx hb dX0_no_6 rfl rfl ?_
  obtain ⟨h1, hf⟩ := o_cs hf
  refine b_iald hx hb hW 0 11 rfl xW_11 h1 dX0_no_7 ?_
  refine lv_iconst (v := 1) hx hb dX0_no_8 (by decide) ?_
  refine lv_iadd hx hb dX0_no_9 ?_
  obtain ⟨v2, ev2, hf⟩ := o_ls hf
  refine b_topi ev2 ?_
  obtain ⟨X3, eX3, hf⟩ := o_ls hf
  refine b_iast hx hb hW 0 11 rfl xW_11 (xW_s11 eX3) rfl h1 dX0_no_10 (fun H locs hW => ?_)
  have hW : bW D g A s H locs [xW g adX (adN 0) (adT 0) iX X3] := hW
  refine lv_iload_n hx hb dX0_no_11 rfl (lv_at hl 1 rfl) ?_
  cases hf
  exact b_iret hx hb hr hlk hE hW () rfl trivial rfl dX0_no_12
def f_X0_isGoer (X : BC) (N : BC) (x1 : Int32) : Option Int32 :=
 o_b1 (f_X0_isIn x1 0 ((N.1 0 1) - 1)) fun (r1 : Int32) =>
 o_ck (decide (r1 = 0) || decide (r1 = 1)) (some r1)
abbrev rm_X0_isGoer : Room := { frames := 1, cells := 0, slots := 0, locals := 22 }
set_option maxHeartbeats 4000000 in
set_option maxRecDepth 100000 in
theorem m_X0_isGoer (l : Launch) (D : va_G) (g : Nat → ClassId) (sz : Nat) (adX : Nat → Nat) (iX : Option Nat) (adN : Nat → Nat) (adT : Nat → Nat) (X : BC) (N : BC) (x1 : Int32) (rO : Int32) (hf : f_X0_isGoer X N x1 = some rO) : bMet (S := Unit) l yX0_isGoer (ws_ yX0_isGoer cX0_isGoer 2 (some .boolean)) rm_X0_isGoer D g sz [.ref (adX 0), .int x1] [xW g adX (adN 0) (adT 0) iX X, vW g adN N] (fun _ => True) (fun _ => some (.int rO)) (fun _ => [xW g adX (adN 0) (adT 0) iX X, vW g adN N]) := by
  refine b_met (by decide) (Nat.le_of_ble_eq_true rfl) ?_
  intro p e s m args below meth c A Q ls hx hb hml hr hlk hown hname hts hE hl hW
  revert hW; generalize s.heap = H; intro hW
  have hl : lv_has ls 2 [(0, .ref (adX 0)), (1, .int x1)] := hl
  rw [f_X0_isGoer] at hf
  refine lv_iload_n hx hb dX0_isGoer_0 rfl (lv_at hl 1 rfl) ?_
  refine lv_iconst (v := 0) hx hb dX0_isGoer_1 (by decide) ?_
  refine lv_aload_n hx hb dX0_isGoer_2 rfl (lv_at hl 0 rfl) ?_
  refine b_get hx hb hts in_X0 hown hW 0 0 0 0 rfl xW_0 rfl (by decide) ⟨rfl, rfl, rfl⟩ (hts _ q227) xW_g0 dX0_isGoer_3 ?_
  refine b_get hx hb hts in_X1 hown hW 1 0 1 13 rfl vW_0 rfl (by decide) ⟨rfl, rfl, rfl⟩ (hts _ q170) vW_g13 dX0_isGoer_6 ?_
  refine lv_iconst (v := 1) hx hb dX0_isGoer_9 (by decide) ?_
  refine lv_isub hx hb dX0_isGoer_10 ?_
  obtain ⟨r1, hc1, hf⟩ := o_b1s hf
  have hp1 : List.Perm [xW g adX (adN 0) (adT 0) iX X, vW g adN N] ([] ++ [xW g adX (adN 0) (adT 0) iX X, vW g adN N]) := b_perm [] [0, 1] 2 rfl rfl rfl rfl
  refine b_call0 ⟨rfl, rfl⟩ (va_runS (As := [.int x1, .int 0, .int ((N.1 0 1) - 1)]) (rest := []) ⟨hx, hb, hml, hown, hts⟩ (m_X0_isIn l D g H.size x1 0 ((N.1 0 1) - 1) r1 hc1) (va_cwS 3 hts (lw_S q344 q345 q76 q346) rfl rfl rfl (by decide +kernel) ⟨Nat.le_of_ble_eq_true rfl, Nat.le_of_ble_eq_true rfl⟩) (b_preS hW hp1) rfl rfl hl.1 rfl (lv_room (Nat.le_of_ble_eq_true rfl)) dX0_isGoer_11 ⟨Nat.le_of_ble_eq_true rfl, Nat.le_of_ble_eq_true rfl⟩) hW hp1 (fun _ _ H locs hW => ?_)
  have hW : bW D g A s H locs [xW g adX (adN 0) (adT 0) iX X, vW g adN N] := hW
  obtain ⟨h2, hf⟩ := o_cs hf
  cases hf
  exact b_zret hx hb hr hlk hE hW () rfl trivial rfl h2 dX0_isGoer_14
def f_X0_allInns (X : BC) (N : BC) : Option Int32 :=
 some ((1 <<< ((N.1 0 0) &&& 31)) - 1)
abbrev rm_X0_allInns : Room := { frames := 0, cells := 0, slots := 0, locals := 0 }
set_option maxHeartbeats 4000000 in
set_option maxRecDepth 100000 in
theorem m_X0_allInns (l : Launch) (D : va_G) (g : Nat → ClassId) (sz : Nat) (adX : Nat → Nat) (iX : Option Nat) (adN : Nat → Nat) (adT : Nat → Nat) (X : BC) (N : BC) (rO : Int32) (hf : f_X0_allInns X N = some rO) : bMet (S := Unit) l yX0_allInns (ws_ yX0_allInns cX0_allInns 1 (some .int)) rm_X0_allInns D g sz [.ref (adX 0)] [xW g adX (adN 0) (adT 0) iX X, vW g adN N] (fun _ => True) (fun _ => some (.int rO)) (fun _ => [xW g adX (adN 0) (adT 0) iX X, vW g adN N]) := by
  refine b_met (by decide) (Nat.le_of_ble_eq_true rfl) ?_
  intro p e s m args below meth c A Q ls hx hb hml hr hlk hown hname hts hE hl hW
  revert hW; generalize s.heap = H; intro hW
  have hl : lv_has ls 1 [(0, .ref (adX 0))] := hl
  rw [f_X0_allInns] at hf
  refine lv_iconst (v := 1) hx hb dX0_allInns_0 (by decide) ?_
  refine lv_aload_n hx hb dX0_allInns_1 rfl (lv_at hl 0 rfl) ?_
  refine b_get hx hb hts in_X0 hown hW 0 0 0 0 rfl xW_0 rfl (by decide) ⟨rfl, rfl, rfl⟩ (hts _ q227) xW_g0 dX0_allInns_2 ?_
  refine b_get hx hb hts in_X1 hown hW 1 0 1 12 rfl vW_0 rfl (by decide) ⟨rfl, rfl, rfl⟩ (hts _ q167) vW_g12 dX0_allInns_5 ?_
  refine lv_ishl hx hb dX0_allInns_8 ?_
  refine lv_iconst (v := 1) hx hb dX0_allInns_9 (by decide) ?_
  refine lv_isub hx hb dX0_allInns_10 ?_
  cases hf
  exact b_iret hx hb hr hlk hE hW () rfl trivial rfl dX0_allInns_11
def f_X0_first (fu : Nat) (X : BC) (N : BC) (L : List Nat) (kd : Nat → Nat) (nu : Nat → Int32) (aa : Nat → Int32) (x1 : Nat) : Option Int32 :=
 o_b1 (f_X0_allInns X N) fun (r1 : Int32) =>
 o_ck (gIn L kd x1) (o_b1 (fg_first fu N L kd nu aa x1 r1) fun (r3 : Int32) =>
 some r3)
abbrev rm_X0_first : Room := { frames := 5, cells := 0, slots := 0, locals := 117 }
set_option maxHeartbeats 4000000 in
set_option maxRecDepth 100000 in
theorem m_X0_first (l : Launch) (D : va_G) (g : Nat → ClassId) (sz : Nat) (adX : Nat → Nat) (iX : Option Nat) (adN : Nat → Nat) (adT : Nat → Nat) (fu : Nat) (X : BC) (N : BC) (L : List Nat) (kd : Nat → Nat) (nu : Nat → Int32) (aa : Nat → Int32) (x1 : Nat) (rO : Int32) (hf : f_X0_first fu X N L kd nu aa x1 = some rO) : bMet (S := Unit) l yX0_first (ws_ yX0_first cX0_first 2 (some .int)) rm_X0_first D g sz [.ref (adX 0), .ref x1] [xW g adX (adN 0) (adT 0) iX X, vW g adN N, gW L kd nu aa] (fun _ => True) (fun _ => some (.int rO)) (fun _ => [xW g adX (adN 0) (adT 0) iX X, vW g adN N, gW L kd nu aa]) := by
  refine b_met (by decide) (Nat.le_of_ble_eq_true rfl) ?_
  intro p e s m args below meth c A Q ls hx hb hml hr hlk hown hname hts hE hl hW
  revert hW; generalize s.heap = H; intro hW
  have hl : lv_has ls 2 [(0, .ref (adX 0)), (1, .ref x1)] := hl
  rw [f_X0_first] at hf
  refine lv_aload_n hx hb dX0_first_0 rfl (lv_at hl 1 rfl) ?_
  refine lv_aload_n hx hb dX0_first_1 rfl (lv_at hl 0 rfl) ?_
  refine b_get hx hb hts in_X0 hown hW 0 0 0 0 rfl xW_0 rfl (by decide) ⟨rfl, rfl, rfl⟩ (hts _ q227) xW_g0 dX0_first_2 ?_
  refine lv_aload_n hx hb dX0_first_5 rfl (lv_at hl 0 rfl) ?_
  obtain ⟨r1, hc1, hf⟩ := o_b1s hf
  have hp1 : List.Perm [xW g adX (adN 0) (adT 0) iX X, vW g adN N, gW L kd nu aa] ([xW g adX (adN 0) (adT 0) iX X, vW g adN N] ++ [gW L kd nu aa]) := b_perm [0, 1] [2] 3 rfl rfl rfl rfl
  refine b_call0 ⟨rfl, rfl⟩ (va_runV (As := []) (rest := [.ref (adN 0), .ref x1]) ⟨hx, hb, hml, hown, hts⟩ (m_X0_allInns l D g H.size adX iX adN adT X N r1 hc1) (cwV 0 hts (lw_V q512 q514 qs6 q76 q515) rfl rfl rfl (by decide +kernel) ⟨Nat.le_of_ble_eq_true rfl, Nat.le_of_ble_eq_true rfl⟩) (b_preV (pp := 0) (q := 0) hW hp1 rfl xW_0 rfl) rfl rfl hl.1 rfl (lv_room (Nat.le_of_ble_eq_true rfl)) dX0_first_6 ⟨Nat.le_of_ble_eq_true rfl, Nat.le_of_ble_eq_true rfl⟩) hW hp1 (fun _ _ H locs hW => ?_)
  have hW : bW D g A s H locs [xW g adX (adN 0) (adT 0) iX X, vW g adN N, gW L kd nu aa] := hW
  obtain ⟨h2, hf⟩ := o_cs hf
  obtain ⟨r3, hc3, hf⟩ := o_b1s hf
  have hp3 : List.Perm [xW g adX (adN 0) (adT 0) iX X, vW g adN N, gW L kd nu aa] ([vW g adN N, gW L kd nu aa] ++ [xW g adX (adN 0) (adT 0) iX X]) := b_perm [1, 2] [0] 3 rfl rfl rfl rfl
  refine b_gv_first ⟨hx, hb, hml, hown, hts⟩ (va_Nw.use rfl (hW.2.2.2.2.2.2.2.2.2.2.2.1 _ (List.mem_of_getElem? (i := 0) rfl))) hW hp3 2 rfl h2 hc3 ⟨Nat.le_of_ble_eq_true rfl, Nat.le_of_ble_eq_true rfl⟩ hl.1 (Nat.le_of_ble_eq_true rfl) ⟨Nat.le_of_ble_eq_true rfl, Nat.le_of_ble_eq_true rfl⟩ dX0_first_9 (fun H locs hW => ?_)
  have hW : bW D g A s H locs [vW g adN N, gW L kd nu aa, xW g adX (adN 0) (adT 0) iX X] := hW
  cases hf
  exact b_iret hx hb hr hlk hE (b_perms hW (b_ord [2, 0, 1] 3 rfl rfl rfl)) () rfl trivial rfl dX0_first_12
def f_X0_inn (X : BC) (N : BC) (x1 : Int32) (x2 : Int32) (x3 : Int32) : Option (Int32 × BC × BC) :=
 o_b1 (f_X0_isIn x1 0 100) fun (r1 : Int32) =>
 (if r1 = 0 then
 o_b2 (f_X0_no X (-2)) fun (r3 : Int32) (X4 : BC) =>
 some (r3, X4, N)
 else
 o_b1 (f_X0_isIn x2 1 20) fun (r5 : Int32) =>
 (if r5 = 0 then
 o_b2 (f_X0_no X (-2)) fun (r7 : Int32) (X8 : BC) =>
 some (r7, X8, N)
 else
 o_b1 (f_X0_isIn x3 0 99) fun (r9 : Int32) =>
 (if r9 = 0 then
 o_b2 (f_X0_no X (-2)) fun (r15 : Int32) (X16 : BC) =>
 some (r15, X16, N)
 else
 (if (N.1 0 0) = 6 then
 o_b2 (f_X0_no X (-6)) fun (r13 : Int32) (X14 : BC) =>
 some (r13, X14, N)
 else
 o_b1 (f_X1_adds N x1 x2 x3) fun (N12 : BC) =>
 some ((N12.1 0 0) - 1, X, N12)))))
abbrev rm_X0_inn : Room := { frames := 1, cells := 0, slots := 0, locals := 23 }
set_option maxHeartbeats 4000000 in
set_option maxRecDepth 100000 in
theorem m_X0_inn (l : Launch) (D : va_G) (g : Nat → ClassId) (sz : Nat) (adX : Nat → Nat) (iX : Option Nat) (adN : Nat → Nat) (adT : Nat → Nat) (X : BC) (N : BC) (x1 : Int32) (x2 : Int32) (x3 : Int32) (rO : Int32) (XO : BC) (NO : BC) (hf : f_X0_inn X N x1 x2 x3 = some (rO, XO, NO)) : bMet (S := Unit) l yX0_inn (ws_ yX0_inn cX0_inn 4 (some .int)) rm_X0_inn D g sz [.ref (adX 0), .int x1, .int x2, .int x3] [xW g adX (adN 0) (adT 0) iX X, vW g adN N] (fun _ => True) (fun _ => some (.int rO)) (fun _ => [xW g adX (adN 0) (adT 0) iX XO, vW g adN NO]) := by
  refine b_met (by decide) (Nat.le_of_ble_eq_true rfl) ?_
  intro p e s m args below meth c A Q ls hx hb hml hr hlk hown hname hts hE hl hW
  revert hW; generalize s.heap = H; intro hW
  have hl : lv_has ls 4 [(0, .ref (adX 0)), (1, .int x1), (2, .int x2), (3, .int x3)] := hl
  rw [f_X0_inn] at hf
  refine lv_iload_n hx hb dX0_inn_0 rfl (lv_at hl 1 rfl) ?_
  refine lv_iconst (v := 0) hx hb dX0_inn_1 (by decide) ?_
  refine lv_bipush (v := 100) hx hb dX0_inn_2 (by decide) ?_
  obtain ⟨r1, hc1, hf⟩ := o_b1s hf
  have hp1 : List.Perm [xW g adX (adN 0) (adT 0) iX X, vW g adN N] ([] ++ [xW g adX (adN 0) (adT 0) iX X, vW g adN N]) := b_perm [] [0, 1] 2 rfl rfl rfl rfl
  refine b_call0 ⟨rfl, rfl⟩ (va_runS (As := [.int x1, .int 0, .int 100]) (rest := []) ⟨hx, hb, hml, hown, hts⟩ (m_X0_isIn l D g H.size x1 0 100 r1 hc1) (va_cwS 3 hts (lw_S q344 q345 q76 q346) rfl rfl rfl (by decide +kernel) ⟨Nat.le_of_ble_eq_true rfl, Nat.le_of_ble_eq_true rfl⟩) (b_preS hW hp1) rfl rfl hl.1 rfl (lv_room (Nat.le_of_ble_eq_true rfl)) dX0_inn_4 ⟨Nat.le_of_ble_eq_true rfl, Nat.le_of_ble_eq_true rfl⟩) hW hp1 (fun _ _ H locs hW => ?_)
  have hW : bW D g A s H locs [xW g adX (adN 0) (adT 0) iX X, vW g adN N] := hW
  refine lv_if_eq (tgt := 30) hx hb dX0_inn_7 (by decide) (fun c2 => ?_) (fun c2 => ?_)
  · have hf := o_t hf c2
    refine lv_aload_n hx hb dX0_inn_30 rfl (lv_at hl 0 rfl) ?_
    refine lv_bipush (v := (-2)) hx hb dX0_inn_31 (by decide) ?_
    obtain ⟨r3, X4, hc4, hf⟩ := o_b2s hf
    have hp4 : List.Perm [xW g adX (adN 0) (adT 0) iX X, vW g adN N] ([xW g adX (adN 0) (adT 0) iX X] ++ [vW g adN N]) := b_perm [0] [1] 2 rfl rfl rfl rfl
    refine b_call0 ⟨rfl, rfl⟩ (va_runV (As := [.int (-2)]) (rest := []) ⟨hx, hb, hml, hown, hts⟩ (m_X0_no l D g H.size adX iX adN adT X (-2) r3 X4 hc4) (cwV 1 hts (lw_V q347 q349 qs2 q76 q350) rfl rfl rfl (by decide +kernel) ⟨Nat.le_of_ble_eq_true rfl, Nat.le_of_ble_eq_true rfl⟩) (b_preV (pp := 0) (q := 0) hW hp4 rfl xW_0 rfl) rfl rfl hl.1 rfl (lv_room (Nat.le_of_ble_eq_true rfl)) dX0_inn_33 ⟨Nat.le_of_ble_eq_true rfl, Nat.le_of_ble_eq_true rfl⟩) hW hp4 (fun _ _ H locs hW => ?_)
    have hW : bW D g A s H locs [xW g adX (adN 0) (adT 0) iX X4, vW g adN N] := hW
    cases hf
    exact b_iret hx hb hr hlk hE hW () rfl trivial rfl dX0_inn_36
  · have hf := o_f hf c2
    refine lv_iload_n hx hb dX0_inn_10 rfl (lv_at hl 2 rfl) ?_
    refine lv_iconst (v := 1) hx hb dX0_inn_11 (by decide) ?_
    refine lv_bipush (v := 20) hx hb dX0_inn_12 (by decide) ?_
    obtain ⟨r5, hc5, hf⟩ := o_b1s hf
    have hp5 : List.Perm [xW g adX (adN 0) (adT 0) iX X, vW g adN N] ([] ++ [xW g adX (adN 0) (adT 0) iX X, vW g adN N]) := b_perm [] [0, 1] 2 rfl rfl rfl rfl
    refine b_call0 ⟨rfl, rfl⟩ (va_runS (As := [.int x2, .int 1, .int 20]) (rest := []) ⟨hx, hb, hml, hown, hts⟩ (m_X0_isIn l D g H.size x2 1 20 r5 hc5) (va_cwS 3 hts (lw_S q344 q345 q76 q346) rfl rfl rfl (by decide +kernel) ⟨Nat.le_of_ble_eq_true rfl, Nat.le_of_ble_eq_true rfl⟩) (b_preS hW hp5) rfl rfl hl.1 rfl (lv_room (Nat.le_of_ble_eq_true rfl)) dX0_inn_14 ⟨Nat.le_of_ble_eq_true rfl, Nat.le_of_ble_eq_true rfl⟩) hW hp5 (fun _ _ H locs hW => ?_)
    have hW : bW D g A s H locs [xW g adX (adN 0) (adT 0) iX X, vW g adN N] := hW
    refine lv_if_eq (tgt := 30) hx hb dX0_inn_17 (by decide) (fun c6 => ?_) (fun c6 => ?_)
    · have hf := o_t hf c6
      refine lv_aload_n hx hb dX0_inn_30 rfl (lv_at hl 0 rfl) ?_
      refine lv_bipush (v := (-2)) hx hb dX0_inn_31 (by decide) ?_
      obtain ⟨r7, X8, hc8, hf⟩ := o_b2s hf
      have hp8 : List.Perm [xW g adX (adN 0) (adT 0) iX X, vW g adN N] ([xW g adX (adN 0) (adT 0) iX X] ++ [vW g adN N]) := b_perm [0] [1] 2 rfl rfl rfl rfl
      refine b_call0 ⟨rfl, rfl⟩ (va_runV (As := [.int (-2)]) (rest := []) ⟨hx, hb, hml, hown, hts⟩ (m_X0_no l D g H.size adX iX adN adT X (-2) r7 X8 hc8) (cwV 1 hts (lw_V q347 q349 qs2 q76 q350) rfl rfl rfl (by decide +kernel) ⟨Nat.le_of_ble_eq_true rfl, Nat.le_of_ble_eq_true rfl⟩) (b_preV (pp := 0) (q := 0) hW hp8 rfl xW_0 rfl) rfl rfl hl.1 rfl (lv_room (Nat.le_of_ble_eq_true rfl)) dX0_inn_33 ⟨Nat.le_of_ble_eq_true rfl, Nat.le_of_ble_eq_true rfl⟩) hW hp8 (fun _ _ H locs hW => ?_)
      have hW : bW D g A s H locs [xW g adX (adN 0) (adT 0) iX X8, vW g adN N] := hW
      cases hf
      exact b_iret hx hb hr hlk hE hW () rfl trivial rfl dX0_inn_36
    · have hf := o_f hf c6
      refine lv_iload_n hx hb dX0_inn_20 rfl (lv_at hl 3 rfl) ?_
      refine lv_iconst (v := 0) hx hb dX0_inn_21 (by decide) ?_
      refine lv_bipush (v := 99) hx hb dX0_inn_22 (by decide) ?_
      obtain ⟨r9, hc9, hf⟩ := o_b1s hf
      have hp9 : List.Perm [xW g adX (adN 0) (adT 0) iX X, vW g adN N] ([] ++ [xW g adX (adN 0) (adT 0) iX X, vW g adN N]) := b_perm [] [0, 1] 2 rfl rfl rfl rfl
      refine b_call0 ⟨rfl, rfl⟩ (va_runS (As := [.int x3, .int 0, .int 99]) (rest := []) ⟨hx, hb, hml, hown, hts⟩ (m_X0_isIn l D g H.size x3 0 99 r9 hc9) (va_cwS 3 hts (lw_S q344 q345 q76 q346) rfl rfl rfl (by decide +kernel) ⟨Nat.le_of_ble_eq_true rfl, Nat.le_of_ble_eq_true rfl⟩) (b_preS hW hp9) rfl rfl hl.1 rfl (lv_room (Nat.le_of_ble_eq_true rfl)) dX0_inn_24 ⟨Nat.le_of_ble_eq_true rfl, Nat.le_of_ble_eq_true rfl⟩) hW hp9 (fun _ _ H locs hW => ?_)
      have hW : bW D g A s H locs [xW g adX (adN 0) (adT 0) iX X, vW g adN N] := hW
      refine lv_if_ne (tgt := 37) hx hb dX0_inn_27 (by decide) (fun c10 => ?_) (fun c10 => ?_)
      · have hf := o_f hf c10
        refine lv_aload_n hx hb dX0_inn_37 rfl (lv_at hl 0 rfl) ?_
        refine b_get hx hb hts in_X0 hown hW 0 0 0 0 rfl xW_0 rfl (by decide) ⟨rfl, rfl, rfl⟩ (hts _ q227) xW_g0 dX0_inn_38 ?_
        refine b_get hx hb hts in_X1 hown hW 1 0 1 12 rfl vW_0 rfl (by decide) ⟨rfl, rfl, rfl⟩ (hts _ q167) vW_g12 dX0_inn_41 ?_
        refine lv_bipush (v := 6) hx hb dX0_inn_44 (by decide) ?_
        refine lv_icmp_ne (tgt := 56) hx hb dX0_inn_46 (by decide) (fun c11 => ?_) (fun c11 => ?_)
        · have hf := o_f hf c11
          refine lv_aload_n hx hb dX0_inn_56 rfl (lv_at hl 0 rfl) ?_
          refine b_get hx hb hts in_X0 hown hW 0 0 0 0 rfl xW_0 rfl (by decide) ⟨rfl, rfl, rfl⟩ (hts _ q227) xW_g0 dX0_inn_57 ?_
          refine lv_iload_n hx hb dX0_inn_60 rfl (lv_at hl 1 rfl) ?_
          refine lv_iload_n hx hb dX0_inn_61 rfl (lv_at hl 2 rfl) ?_
          refine lv_iload_n hx hb dX0_inn_62 rfl (lv_at hl 3 rfl) ?_
          obtain ⟨N12, hc12, hf⟩ := o_b1s hf
          have hp12 : List.Perm [xW g adX (adN 0) (adT 0) iX X, vW g adN N] ([vW g adN N] ++ [xW g adX (adN 0) (adT 0) iX X]) := b_perm [1] [0] 2 rfl rfl rfl rfl
          refine b_call0 ⟨rfl, rfl⟩ (va_runV (As := [.int x1, .int x2, .int x3]) (rest := []) ⟨hx, hb, hml, hown, hts⟩ (m_X1_adds l D g H.size adN N x1 x2 x3 N12 hc12) (cwV 3 hts (lw_V q599 q600 q601 q77 q602) rfl rfl rfl (by decide +kernel) ⟨Nat.le_of_ble_eq_true rfl, Nat.le_of_ble_eq_true rfl⟩) (b_preV (pp := 1) (q := 0) hW hp12 rfl vW_0 rfl) rfl rfl hl.1 rfl (lv_room (Nat.le_of_ble_eq_true rfl)) dX0_inn_63 ⟨Nat.le_of_ble_eq_true rfl, Nat.le_of_ble_eq_true rfl⟩) hW hp12 (fun _ _ H locs hW => ?_)
          have hW : bW D g A s H locs [vW g adN N12, xW g adX (adN 0) (adT 0) iX X] := hW
          refine lv_aload_n hx hb dX0_inn_66 rfl (lv_at hl 0 rfl) ?_
          refine b_get hx hb hts in_X0 hown hW 1 0 0 0 rfl xW_0 rfl (by decide) ⟨rfl, rfl, rfl⟩ (hts _ q227) xW_g0 dX0_inn_67 ?_
          refine b_get hx hb hts in_X1 hown hW 0 0 1 12 rfl vW_0 rfl (by decide) ⟨rfl, rfl, rfl⟩ (hts _ q167) vW_g12 dX0_inn_70 ?_
          refine lv_iconst (v := 1) hx hb dX0_inn_73 (by decide) ?_
          refine lv_isub hx hb dX0_inn_74 ?_
          cases hf
          exact b_iret hx hb hr hlk hE (b_perms hW (b_ord [1, 0] 2 rfl rfl rfl)) () rfl trivial rfl dX0_inn_75
        · have hf := o_t hf c11
          refine lv_aload_n hx hb dX0_inn_49 rfl (lv_at hl 0 rfl) ?_
          refine lv_bipush (v := (-6)) hx hb dX0_inn_50 (by decide) ?_
          obtain ⟨r13, X14, hc14, hf⟩ := o_b2s hf
          have hp14 : List.Perm [xW g adX (adN 0) (adT 0) iX X, vW g adN N] ([xW g adX (adN 0) (adT 0) iX X] ++ [vW g adN N]) := b_perm [0] [1] 2 rfl rfl rfl rfl
          refine b_call0 ⟨rfl, rfl⟩ (va_runV (As := [.int (-6)]) (rest := []) ⟨hx, hb, hml, hown, hts⟩ (m_X0_no l D g H.size adX iX adN adT X (-6) r13 X14 hc14) (cwV 1 hts (lw_V q347 q349 qs2 q76 q350) rfl rfl rfl (by decide +kernel) ⟨Nat.le_of_ble_eq_true rfl, Nat.le_of_ble_eq_true rfl⟩) (b_preV (pp := 0) (q := 0) hW hp14 rfl xW_0 rfl) rfl rfl hl.1 rfl (lv_room (Nat.le_of_ble_eq_true rfl)) dX0_inn_52 ⟨Nat.le_of_ble_eq_true rfl, Nat.le_of_ble_eq_true rfl⟩) hW hp14 (fun _ _ H locs hW => ?_)
          have hW : bW D g A s H locs [xW g adX (adN 0) (adT 0) iX X14, vW g adN N] := hW
          cases hf
          exact b_iret hx hb hr hlk hE hW () rfl trivial rfl dX0_inn_55
      · have hf := o_t hf c10
        refine lv_aload_n hx hb dX0_inn_30 rfl (lv_at hl 0 rfl) ?_
        refine lv_bipush (v := (-2)) hx hb dX0_inn_31 (by decide) ?_
        obtain ⟨r15, X16, hc16, hf⟩ := o_b2s hf
        have hp16 : List.Perm [xW g adX (adN 0) (adT 0) iX X, vW g adN N] ([xW g adX (adN 0) (adT 0) iX X] ++ [vW g adN N]) := b_perm [0] [1] 2 rfl rfl rfl rfl
        refine b_call0 ⟨rfl, rfl⟩ (va_runV (As := [.int (-2)]) (rest := []) ⟨hx, hb, hml, hown, hts⟩ (m_X0_no l D g H.size adX iX adN adT X (-2) r15 X16 hc16) (cwV 1 hts (lw_V q347 q349 qs2 q76 q350) rfl rfl rfl (by decide +kernel) ⟨Nat.le_of_ble_eq_true rfl, Nat.le_of_ble_eq_true rfl⟩) (b_preV (pp := 0) (q := 0) hW hp16 rfl xW_0 rfl) rfl rfl hl.1 rfl (lv_room (Nat.le_of_ble_eq_true rfl)) dX0_inn_33 ⟨Nat.le_of_ble_eq_true rfl, Nat.le_of_ble_eq_true rfl⟩) hW hp16 (fun _ _ H locs hW => ?_)
        have hW : bW D g A s H locs [xW g adX (adN 0) (adT 0) iX X16, vW g adN N] := hW
        cases hf
        exact b_iret hx hb hr hlk hE hW () rfl trivial rfl dX0_inn_36
def f_X0_change (X : BC) (N : BC) (x1 : Int32) (x2 : Int32) (x3 : Int32) : Option (Int32 × BC × BC) :=
 o_b1 (f_X1_isInn N x1) fun (r1 : Int32) =>
 (if r1 = 0 then
 o_b2 (f_X0_no X (-2)) fun (r3 : Int32) (X4 : BC) =>
 some (r3, X4, N)
 else
 o_b1 (f_X0_isIn x2 0 1) fun (r5 : Int32) =>
 (if r5 = 0 then
 o_b2 (f_X0_no X (-2)) fun (r7 : Int32) (X8 : BC) =>
 some (r7, X8, N)
 else
 (if x2 = 0 then
 o_b1 (f_X0_isIn x3 0 100) fun (r21 : Int32) =>
 (if r21 = 0 then
 o_b2 (f_X0_no X (-2)) fun (r30 : Int32) (X31 : BC) =>
 some (r30, X31, N)
 else
 (if x2 = 0 then
 o_ck (inB x1 6) (o_lt (N.1 1 (ix x1)) fun (v28 : Int32) =>
 o_lt (bI N 1 (upd (N.1 1) (ix x1) x3)) fun (N29 : BC) =>
 some (v28, X, N29))
 else
 o_ck (inB x1 6) (o_lt (N.1 4 (ix x1)) fun (v25 : Int32) =>
 o_lt (bI N 4 (upd (N.1 4) (ix x1) x3)) fun (N26 : BC) =>
 some (v25, X, N26))))
 else
 o_b1 (f_X0_isIn x3 0 99) fun (r10 : Int32) =>
 (if r10 = 0 then
 o_b2 (f_X0_no X (-2)) fun (r19 : Int32) (X20 : BC) =>
 some (r19, X20, N)
 else
 (if x2 = 0 then
 o_ck (inB x1 6) (o_lt (N.1 1 (ix x1)) fun (v17 : Int32) =>
 o_lt (bI N 1 (upd (N.1 1) (ix x1) x3)) fun (N18 : BC) =>
 some (v17, X, N18))
 else
 o_ck (inB x1 6) (o_lt (N.1 4 (ix x1)) fun (v14 : Int32) =>
 o_lt (bI N 4 (upd (N.1 4) (ix x1) x3)) fun (N15 : BC) =>
 some (v14, X, N15)))))))
abbrev rm_X0_change : Room := { frames := 2, cells := 0, slots := 0, locals := 43 }
set_option maxHeartbeats 4000000 in
set_option maxRecDepth 100000 in
theorem m_X0_change (l : Launch) (D : va_G) (g : Nat → ClassId) (sz : Nat) (adX : Nat → Nat) (iX : Option Nat) (adN : Nat → Nat) (adT : Nat → Nat) (X : BC) (N : BC) (x1 : Int32) (x2 : Int32) (x3 : Int32) (rO : Int32) (XO : BC) (NO : BC) (hf : f_X0_change X N x1 x2 x3 = some (rO, XO, NO)) : bMet (S := Unit) l yX0_change (ws_ yX0_change cX0_change 6 (some .int)) rm_X0_change D g sz [.ref (adX 0), .int x1, .int x2, .int x3] [xW g adX (adN 0) (adT 0) iX X, vW g adN N] (fun _ => True) (fun _ => some (.int rO)) (fun _ => [xW g adX (adN 0) (adT 0) iX XO, vW g adN NO]) := by
  refine b_met (by decide) (Nat.le_of_ble_eq_true rfl) ?_
  intro p e s m args below meth c A Q ls hx hb hml hr hlk hown hname hts hE hl hW
  revert hW; generalize s.heap = H; intro hW
  have hl : lv_has ls 6 [(0, .ref (adX 0)), (1, .int x1), (2, .int x2), (3, .int x3)] := hl
  rw [f_X0_change] at hf
  refine lv_aload_n hx hb dX0_change_0 rfl (lv_at hl 0 rfl) ?_
  refine b_get hx hb hts in_X0 hown hW 0 0 0 0 rfl xW_0 rfl (by decide) ⟨rfl, rfl, rfl⟩ (hts _ q227) xW_g0 dX0_change_1 ?_
  refine lv_iload_n hx hb dX0_change_4 rfl (lv_at hl 1 rfl) ?_
  obtain ⟨r1, hc1, hf⟩ := o_b1s hf
  have hp1 : List.Perm [xW g adX (adN 0) (adT 0) iX X, vW g adN N] ([vW g adN N] ++ [xW g adX (adN 0) (adT 0) iX X]) := b_perm [1] [0] 2 rfl rfl rfl rfl
  refine b_call0 ⟨rfl, rfl⟩ (va_runV (As := [.int x1]) (rest := []) ⟨hx, hb, hml, hown, hts⟩ (m_X1_isInn l D g H.size adN N x1 r1 hc1) (cwV 1 hts (lw_V q672 q673 q674 q77 q675) rfl rfl rfl (by decide +kernel) ⟨Nat.le_of_ble_eq_true rfl, Nat.le_of_ble_eq_true rfl⟩) (b_preV (pp := 1) (q := 0) hW hp1 rfl vW_0 rfl) rfl rfl hl.1 rfl (lv_room (Nat.le_of_ble_eq_true rfl)) dX0_change_5 ⟨Nat.le_of_ble_eq_true rfl, Nat.le_of_ble_eq_true rfl⟩) hW hp1 (fun _ _ H locs hW => ?_)
  have hW : bW D g A s H locs [vW g adN N, xW g adX (adN 0) (adT 0) iX X] := hW
  refine lv_if_eq (tgt := 39) hx hb dX0_change_8 (by decide) (fun c2 => ?_) (fun c2 => ?_)
  · have hf := o_t hf c2
    refine lv_aload_n hx hb dX0_change_39 rfl (lv_at hl 0 rfl) ?_
    refine lv_bipush (v := (-2)) hx hb dX0_change_40 (by decide) ?_
    obtain ⟨r3, X4, hc4, hf⟩ := o_b2s hf
    have hp4 : List.Perm [vW g adN N, xW g adX (adN 0) (adT 0) iX X] ([xW g adX (adN 0) (adT 0) iX X] ++ [vW g adN N]) := b_perm [1] [0] 2 rfl rfl rfl rfl
    refine b_call0 ⟨rfl, rfl⟩ (va_runV (As := [.int (-2)]) (rest := []) ⟨hx, hb, hml, hown, hts⟩ (m_X0_no l D g H.size adX iX adN adT X (-2) r3 X4 hc4) (cwV 1 hts (lw_V q347 q349 qs2 q76 q350) rfl rfl rfl (by decide +kernel) ⟨Nat.le_of_ble_eq_true rfl, Nat.le_of_ble_eq_true rfl⟩) (b_preV (pp := 1) (q := 0) hW hp4 rfl xW_0 rfl) rfl rfl hl.1 rfl (lv_room (Nat.le_of_ble_eq_true rfl)) dX0_change_42 ⟨Nat.le_of_ble_eq_true rfl, Nat.le_of_ble_eq_true rfl⟩) hW hp4 (fun _ _ H locs hW => ?_)
    have hW : bW D g A s H locs [xW g adX (adN 0) (adT 0) iX X4, vW g adN N] := hW
    cases hf
    exact b_iret hx hb hr hlk hE hW () rfl trivial rfl dX0_change_45
  · have hf := o_f hf c2
    refine lv_iload_n hx hb dX0_change_11 rfl (lv_at hl 2 rfl) ?_
    refine lv_iconst (v := 0) hx hb dX0_change_12 (by decide) ?_
    refine lv_iconst (v := 1) hx hb dX0_change_13 (by decide) ?_
    obtain ⟨r5, hc5, hf⟩ := o_b1s hf
    have hp5 : List.Perm [vW g adN N, xW g adX (adN 0) (adT 0) iX X] ([] ++ [vW g adN N, xW g adX (adN 0) (adT 0) iX X]) := b_perm [] [0, 1] 2 rfl rfl rfl rfl
    refine b_call0 ⟨rfl, rfl⟩ (va_runS (As := [.int x2, .int 0, .int 1]) (rest := []) ⟨hx, hb, hml, hown, hts⟩ (m_X0_isIn l D g H.size x2 0 1 r5 hc5) (va_cwS 3 hts (lw_S q344 q345 q76 q346) rfl rfl rfl (by decide +kernel) ⟨Nat.le_of_ble_eq_true rfl, Nat.le_of_ble_eq_true rfl⟩) (b_preS hW hp5) rfl rfl hl.1 rfl (lv_room (Nat.le_of_ble_eq_true rfl)) dX0_change_14 ⟨Nat.le_of_ble_eq_true rfl, Nat.le_of_ble_eq_true rfl⟩) hW hp5 (fun _ _ H locs hW => ?_)
    have hW : bW D g A s H locs [vW g adN N, xW g adX (adN 0) (adT 0) iX X] := hW
    refine lv_if_eq (tgt := 39) hx hb dX0_change_17 (by decide) (fun c6 => ?_) (fun c6 => ?_)
    · have hf := o_t hf c6
      refine lv_aload_n hx hb dX0_change_39 rfl (lv_at hl 0 rfl) ?_
      refine lv_bipush (v := (-2)) hx hb dX0_change_40 (by decide) ?_
      obtain ⟨r7, X8, hc8, hf⟩ := o_b2s hf
      have hp8 : List.Perm [vW g adN N, xW g adX (adN 0) (adT 0) iX X] ([xW g adX (adN 0) (adT 0) iX X] ++ [vW g adN N]) := b_perm [1] [0] 2 rfl rfl rfl rfl
      refine b_call0 ⟨rfl, rfl⟩ (va_runV (As := [.int (-2)]) (rest := []) ⟨hx, hb, hml, hown, hts⟩ (m_X0_no l D g H.size adX iX adN adT X (-2) r7 X8 hc8) (cwV 1 hts (lw_V q347 q349 qs2 q76 q350) rfl rfl rfl (by decide +kernel) ⟨Nat.le_of_ble_eq_true rfl, Nat.le_of_ble_eq_true rfl⟩) (b_preV (pp := 1) (q := 0) hW hp8 rfl xW_0 rfl) rfl rfl hl.1 rfl (lv_room (Nat.le_of_ble_eq_true rfl)) dX0_change_42 ⟨Nat.le_of_ble_eq_true rfl, Nat.le_of_ble_eq_true rfl⟩) hW hp8 (fun _ _ H locs hW => ?_)
      have hW : bW D g A s H locs [xW g adX (adN 0) (adT 0) iX X8, vW g adN N] := hW
      cases hf
      exact b_iret hx hb hr hlk hE hW () rfl trivial rfl dX0_change_45
    · have hf := o_f hf c6
      refine lv_iload_n hx hb dX0_change_20 rfl (lv_at hl 3 rfl) ?_
      refine lv_iconst (v := 0) hx hb dX0_change_21 (by decide) ?_
      refine lv_iload_n hx hb dX0_change_22 rfl (lv_at hl 2 rfl) ?_
      refine lv_if_ne (tgt := 31) hx hb dX0_change_23 (by decide) (fun c9 => ?_) (fun c9 => ?_)
      · have hf := o_f hf c9
        refine lv_bipush (v := 99) hx hb dX0_change_31 (by decide) ?_
        obtain ⟨r10, hc10, hf⟩ := o_b1s hf
        have hp10 : List.Perm [vW g adN N, xW g adX (adN 0) (adT 0) iX X] ([] ++ [vW g adN N, xW g adX (adN 0) (adT 0) iX X]) := b_perm [] [0, 1] 2 rfl rfl rfl rfl
        refine b_call0 ⟨rfl, rfl⟩ (va_runS (As := [.int x3, .int 0, .int 99]) (rest := []) ⟨hx, hb, hml, hown, hts⟩ (m_X0_isIn l D g H.size x3 0 99 r10 hc10) (va_cwS 3 hts (lw_S q344 q345 q76 q346) rfl rfl rfl (by decide +kernel) ⟨Nat.le_of_ble_eq_true rfl, Nat.le_of_ble_eq_true rfl⟩) (b_preS hW hp10) rfl rfl hl.1 rfl (lv_room (Nat.le_of_ble_eq_true rfl)) dX0_change_33 ⟨Nat.le_of_ble_eq_true rfl, Nat.le_of_ble_eq_true rfl⟩) hW hp10 (fun _ _ H locs hW => ?_)
        have hW : bW D g A s H locs [vW g adN N, xW g adX (adN 0) (adT 0) iX X] := hW
        refine lv_if_ne (tgt := 46) hx hb dX0_change_36 (by decide) (fun c11 => ?_) (fun c11 => ?_)
        · have hf := o_f hf c11
          refine lv_iload_n hx hb dX0_change_46 rfl (lv_at hl 2 rfl) ?_
          refine lv_if_ne (tgt := 60) hx hb dX0_change_47 (by decide) (fun c12 => ?_) (fun c12 => ?_)
          · have hf := o_f hf c12
            refine lv_aload_n hx hb dX0_change_60 rfl (lv_at hl 0 rfl) ?_
            refine b_get hx hb hts in_X0 hown hW 1 0 0 0 rfl xW_0 rfl (by decide) ⟨rfl, rfl, rfl⟩ (hts _ q227) xW_g0 dX0_change_61 ?_
            refine b_get hx hb hts in_X1 hown hW 0 0 1 3 rfl vW_0 rfl (by decide) ⟨rfl, rfl, rfl⟩ (hts _ q139) vW_g3 dX0_change_64 ?_
            refine lv_astore (lv' := [(4, .ref (adN 4)), (0, .ref (adX 0)), (1, .int x1), (2, .int x2), (3, .int x3)]) hx hb dX0_change_67 hl (by decide) rfl (fun ls hl => ?_)
            refine lv_aload hx hb dX0_change_69 (lv_at hl 0 rfl) ?_
            refine lv_iload_n hx hb dX0_change_71 rfl (lv_at hl 2 rfl) ?_
            obtain ⟨h13, hf⟩ := o_cs hf
            refine b_iald hx hb hW 0 4 rfl vW_4 h13 dX0_change_72 ?_
            obtain ⟨v14, ev14, hf⟩ := o_ls hf
            refine b_topi ev14 ?_
            refine lv_istore (lv' := [(5, .int v14), (4, .ref (adN 4)), (0, .ref (adX 0)), (1, .int x1), (2, .int x2), (3, .int x3)]) hx hb dX0_change_73 hl (by decide) rfl (fun ls hl => ?_)
            refine lv_aload hx hb dX0_change_75 (lv_at hl 1 rfl) ?_
            refine lv_iload_n hx hb dX0_change_77 rfl (lv_at hl 3 rfl) ?_
            refine lv_iload_n hx hb dX0_change_78 rfl (lv_at hl 5 rfl) ?_
            obtain ⟨N15, eN15, hf⟩ := o_ls hf
            refine b_iast hx hb hW 0 4 rfl vW_4 (vW_s4 eN15) rfl h13 dX0_change_79 (fun H locs hW => ?_)
            have hW : bW D g A s H locs [vW g adN N15, xW g adX (adN 0) (adT 0) iX X] := hW
            refine lv_iload hx hb dX0_change_80 (lv_at hl 0 rfl) ?_
            cases hf
            exact b_iret hx hb hr hlk hE (b_perms hW (b_ord [1, 0] 2 rfl rfl rfl)) () rfl trivial rfl dX0_change_82
          · have hf := o_t hf c12
            refine lv_aload_n hx hb dX0_change_50 rfl (lv_at hl 0 rfl) ?_
            refine b_get hx hb hts in_X0 hown hW 1 0 0 0 rfl xW_0 rfl (by decide) ⟨rfl, rfl, rfl⟩ (hts _ q227) xW_g0 dX0_change_51 ?_
            refine b_get hx hb hts in_X1 hown hW 0 0 1 0 rfl vW_0 rfl (by decide) ⟨rfl, rfl, rfl⟩ (hts _ q131) vW_g0 dX0_change_54 ?_
            refine lv_goto (tgt := 67) hx hb dX0_change_57 (by decide) ?_
            refine lv_astore (lv' := [(4, .ref (adN 1)), (0, .ref (adX 0)), (1, .int x1), (2, .int x2), (3, .int x3)]) hx hb dX0_change_67 hl (by decide) rfl (fun ls hl => ?_)
            refine lv_aload hx hb dX0_change_69 (lv_at hl 0 rfl) ?_
            refine lv_iload_n hx hb dX0_change_71 rfl (lv_at hl 2 rfl) ?_
            obtain ⟨h16, hf⟩ := o_cs hf
            refine b_iald hx hb hW 0 1 rfl vW_1 h16 dX0_change_72 ?_
            obtain ⟨v17, ev17, hf⟩ := o_ls hf
            refine b_topi ev17 ?_
            refine lv_istore (lv' := [(5, .int v17), (4, .ref (adN 1)), (0, .ref (adX 0)), (1, .int x1), (2, .int x2), (3, .int x3)]) hx hb dX0_change_73 hl (by decide) rfl (fun ls hl => ?_)
            refine lv_aload hx hb dX0_change_75 (lv_at hl 1 rfl) ?_
            refine lv_iload_n hx hb dX0_change_77 rfl (lv_at hl 3 rfl) ?_
            refine lv_iload_n hx hb dX0_change_78 rfl (lv_at hl 5 rfl) ?_
            obtain ⟨N18, eN18, hf⟩ := o_ls hf
            refine b_iast hx hb hW 0 1 rfl vW_1 (vW_s1 eN18) rfl h16 dX0_change_79 (fun H locs hW => ?_)
            have hW : bW D g A s H locs [vW g adN N18, xW g adX (adN 0) (adT 0) iX X] := hW
            refine lv_iload hx hb dX0_change_80 (lv_at hl 0 rfl) ?_
            cases hf
            exact b_iret hx hb hr hlk hE (b_perms hW (b_ord [1, 0] 2 rfl rfl rfl)) () rfl trivial rfl dX0_change_82
        · have hf := o_t hf c11
          refine lv_aload_n hx hb dX0_change_39 rfl (lv_at hl 0 rfl) ?_
          refine lv_bipush (v := (-2)) hx hb dX0_change_40 (by decide) ?_
          obtain ⟨r19, X20, hc20, hf⟩ := o_b2s hf
          have hp20 : List.Perm [vW g adN N, xW g adX (adN 0) (adT 0) iX X] ([xW g adX (adN 0) (adT 0) iX X] ++ [vW g adN N]) := b_perm [1] [0] 2 rfl rfl rfl rfl
          refine b_call0 ⟨rfl, rfl⟩ (va_runV (As := [.int (-2)]) (rest := []) ⟨hx, hb, hml, hown, hts⟩ (m_X0_no l D g H.size adX iX adN adT X (-2) r19 X20 hc20) (cwV 1 hts (lw_V q347 q349 qs2 q76 q350) rfl rfl rfl (by decide +kernel) ⟨Nat.le_of_ble_eq_true rfl, Nat.le_of_ble_eq_true rfl⟩) (b_preV (pp := 1) (q := 0) hW hp20 rfl xW_0 rfl) rfl rfl hl.1 rfl (lv_room (Nat.le_of_ble_eq_true rfl)) dX0_change_42 ⟨Nat.le_of_ble_eq_true rfl, Nat.le_of_ble_eq_true rfl⟩) hW hp20 (fun _ _ H locs hW => ?_)
          have hW : bW D g A s H locs [xW g adX (adN 0) (adT 0) iX X20, vW g adN N] := hW
          cases hf
          exact b_iret hx hb hr hlk hE hW () rfl trivial rfl dX0_change_45
      · have hf := o_t hf c9
        refine lv_bipush (v := 100) hx hb dX0_change_26 (by decide) ?_
        refine lv_goto (tgt := 33) hx hb dX0_change_28 (by decide) ?_
        obtain ⟨r21, hc21, hf⟩ := o_b1s hf
        have hp21 : List.Perm [vW g adN N, xW g adX (adN 0) (adT 0) iX X] ([] ++ [vW g adN N, xW g adX (adN 0) (adT 0) iX X]) := b_perm [] [0, 1] 2 rfl rfl rfl rfl
        refine b_call0 ⟨rfl, rfl⟩ (va_runS (As := [.int x3, .int 0, .int 100]) (rest := []) ⟨hx, hb, hml, hown, hts⟩ (m_X0_isIn l D g H.size x3 0 100 r21 hc21) (va_cwS 3 hts (lw_S q344 q345 q76 q346) rfl rfl rfl (by decide +kernel) ⟨Nat.le_of_ble_eq_true rfl, Nat.le_of_ble_eq_true rfl⟩) (b_preS hW hp21) rfl rfl hl.1 rfl (lv_room (Nat.le_of_ble_eq_true rfl)) dX0_change_33 ⟨Nat.le_of_ble_eq_true rfl, Nat.le_of_ble_eq_true rfl⟩) hW hp21 (fun _ _ H locs hW => ?_)
        have hW : bW D g A s H locs [vW g adN N, xW g adX (adN 0) (adT 0) iX X] := hW
        refine lv_if_ne (tgt := 46) hx hb dX0_change_36 (by decide) (fun c22 => ?_) (fun c22 => ?_)
        · have hf := o_f hf c22
          refine lv_iload_n hx hb dX0_change_46 rfl (lv_at hl 2 rfl) ?_
          refine lv_if_ne (tgt := 60) hx hb dX0_change_47 (by decide) (fun c23 => ?_) (fun c23 => ?_)
          · have hf := o_f hf c23
            refine lv_aload_n hx hb dX0_change_60 rfl (lv_at hl 0 rfl) ?_
            refine b_get hx hb hts in_X0 hown hW 1 0 0 0 rfl xW_0 rfl (by decide) ⟨rfl, rfl, rfl⟩ (hts _ q227) xW_g0 dX0_change_61 ?_
            refine b_get hx hb hts in_X1 hown hW 0 0 1 3 rfl vW_0 rfl (by decide) ⟨rfl, rfl, rfl⟩ (hts _ q139) vW_g3 dX0_change_64 ?_
            refine lv_astore (lv' := [(4, .ref (adN 4)), (0, .ref (adX 0)), (1, .int x1), (2, .int x2), (3, .int x3)]) hx hb dX0_change_67 hl (by decide) rfl (fun ls hl => ?_)
            refine lv_aload hx hb dX0_change_69 (lv_at hl 0 rfl) ?_
            refine lv_iload_n hx hb dX0_change_71 rfl (lv_at hl 2 rfl) ?_
            obtain ⟨h24, hf⟩ := o_cs hf
            refine b_iald hx hb hW 0 4 rfl vW_4 h24 dX0_change_72 ?_
            obtain ⟨v25, ev25, hf⟩ := o_ls hf
            refine b_topi ev25 ?_
            refine lv_istore (lv' := [(5, .int v25), (4, .ref (adN 4)), (0, .ref (adX 0)), (1, .int x1), (2, .int x2), (3, .int x3)]) hx hb dX0_change_73 hl (by decide) rfl (fun ls hl => ?_)
            refine lv_aload hx hb dX0_change_75 (lv_at hl 1 rfl) ?_
            refine lv_iload_n hx hb dX0_change_77 rfl (lv_at hl 3 rfl) ?_
            refine lv_iload_n hx hb dX0_change_78 rfl (lv_at hl 5 rfl) ?_
            obtain ⟨N26, eN26, hf⟩ := o_ls hf
            refine b_iast hx hb hW 0 4 rfl vW_4 (vW_s4 eN26) rfl h24 dX0_change_79 (fun H locs hW => ?_)
            have hW : bW D g A s H locs [vW g adN N26, xW g adX (adN 0) (adT 0) iX X] := hW
            refine lv_iload hx hb dX0_change_80 (lv_at hl 0 rfl) ?_
            cases hf
            exact b_iret hx hb hr hlk hE (b_perms hW (b_ord [1, 0] 2 rfl rfl rfl)) () rfl trivial rfl dX0_change_82
          · have hf := o_t hf c23
            refine lv_aload_n hx hb dX0_change_50 rfl (lv_at hl 0 rfl) ?_
            refine b_get hx hb hts in_X0 hown hW 1 0 0 0 rfl xW_0 rfl (by decide) ⟨rfl, rfl, rfl⟩ (hts _ q227) xW_g0 dX0_change_51 ?_
            refine b_get hx hb hts in_X1 hown hW 0 0 1 0 rfl vW_0 rfl (by decide) ⟨rfl, rfl, rfl⟩ (hts _ q131) vW_g0 dX0_change_54 ?_
            refine lv_goto (tgt := 67) hx hb dX0_change_57 (by decide) ?_
            refine lv_astore (lv' := [(4, .ref (adN 1)), (0, .ref (adX 0)), (1, .int x1), (2, .int x2), (3, .int x3)]) hx hb dX0_change_67 hl (by decide) rfl (fun ls hl => ?_)
            refine lv_aload hx hb dX0_change_69 (lv_at hl 0 rfl) ?_
            refine lv_iload_n hx hb dX0_change_71 rfl (lv_at hl 2 rfl) ?_
            obtain ⟨h27, hf⟩ := o_cs hf
            refine b_iald hx hb hW 0 1 rfl vW_1 h27 dX0_change_72 ?_
            obtain ⟨v28, ev28, hf⟩ := o_ls hf
            refine b_topi ev28 ?_
            refine lv_istore (lv' := [(5, .int v28), (4, .ref (adN 1)), (0, .ref (adX 0)), (1, .int x1), (2, .int x2), (3, .int x3)]) hx hb dX0_change_73 hl (by decide) rfl (fun ls hl => ?_)
            refine lv_aload hx hb dX0_change_75 (lv_at hl 1 rfl) ?_
            refine lv_iload_n hx hb dX0_change_77 rfl (lv_at hl 3 rfl) ?_
            refine lv_iload_n hx hb dX0_change_78 rfl (lv_at hl 5 rfl) ?_
            obtain ⟨N29, eN29, hf⟩ := o_ls hf
            refine b_iast hx hb hW 0 1 rfl vW_1 (vW_s1 eN29) rfl h27 dX0_change_79 (fun H locs hW => ?_)
            have hW : bW D g A s H locs [vW g adN N29, xW g adX (adN 0) (adT 0) iX X] := hW
            refine lv_iload hx hb dX0_change_80 (lv_at hl 0 rfl) ?_
            cases hf
            exact b_iret hx hb hr hlk hE (b_perms hW (b_ord [1, 0] 2 rfl rfl rfl)) () rfl trivial rfl dX0_change_82
        · have hf := o_t hf c22
          refine lv_aload_n hx hb dX0_change_39 rfl (lv_at hl 0 rfl) ?_
          refine lv_bipush (v := (-2)) hx hb dX0_change_40 (by decide) ?_
          obtain ⟨r30, X31, hc31, hf⟩ := o_b2s hf
          have hp31 : List.Perm [vW g adN N, xW g adX (adN 0) (adT 0) iX X] ([xW g adX (adN 0) (adT 0) iX X] ++ [vW g adN N]) := b_perm [1] [0] 2 rfl rfl rfl rfl
          refine b_call0 ⟨rfl, rfl⟩ (va_runV (As := [.int (-2)]) (rest := []) ⟨hx, hb, hml, hown, hts⟩ (m_X0_no l D g H.size adX iX adN adT X (-2) r30 X31 hc31) (cwV 1 hts (lw_V q347 q349 qs2 q76 q350) rfl rfl rfl (by decide +kernel) ⟨Nat.le_of_ble_eq_true rfl, Nat.le_of_ble_eq_true rfl⟩) (b_preV (pp := 1) (q := 0) hW hp31 rfl xW_0 rfl) rfl rfl hl.1 rfl (lv_room (Nat.le_of_ble_eq_true rfl)) dX0_change_42 ⟨Nat.le_of_ble_eq_true rfl, Nat.le_of_ble_eq_true rfl⟩) hW hp31 (fun _ _ H locs hW => ?_)
          have hW : bW D g A s H locs [xW g adX (adN 0) (adT 0) iX X31, vW g adN N] := hW
          cases hf
          exact b_iret hx hb hr hlk hE hW () rfl trivial rfl dX0_change_45
def f_X0_say (X : BC) (N : BC) (x1 : Int32) (x2 : Int32) : Option (Int32 × BC × BC) :=
 o_b1 (f_X1_isInn N x1) fun (r1 : Int32) =>
 (if r1 = 0 then
 o_b2 (f_X0_no X (-2)) fun (r3 : Int32) (X4 : BC) =>
 some (r3, X4, N)
 else
 o_b1 (f_X0_isIn x2 (-1) 100) fun (r5 : Int32) =>
 (if r5 = 0 then
 o_b2 (f_X0_no X (-2)) fun (r10 : Int32) (X11 : BC) =>
 some (r10, X11, N)
 else
 o_ck (inB x1 6) (o_lt (N.1 5 (ix x1)) fun (v8 : Int32) =>
 o_lt (bI N 5 (upd (N.1 5) (ix x1) x2)) fun (N9 : BC) =>
 some (v8, X, N9))))
abbrev rm_X0_say : Room := { frames := 2, cells := 0, slots := 0, locals := 43 }
set_option maxHeartbeats 4000000 in
set_option maxRecDepth 100000 in
theorem m_X0_say (l : Launch) (D : va_G) (g : Nat → ClassId) (sz : Nat) (adX : Nat → Nat) (iX : Option Nat) (adN : Nat → Nat) (adT : Nat → Nat) (X : BC) (N : BC) (x1 : Int32) (x2 : Int32) (rO : Int32) (XO : BC) (NO : BC) (hf : f_X0_say X N x1 x2 = some (rO, XO, NO)) : bMet (S := Unit) l yX0_say (ws_ yX0_say cX0_say 4 (some .int)) rm_X0_say D g sz [.ref (adX 0), .int x1, .int x2] [xW g adX (adN 0) (adT 0) iX X, vW g adN N] (fun _ => True) (fun _ => some (.int rO)) (fun _ => [xW g adX (adN 0) (adT 0) iX XO, vW g adN NO]) := by
  refine b_met (by decide) (Nat.le_of_ble_eq_true rfl) ?_
  intro p e s m args below meth c A Q ls hx hb hml hr hlk hown hname hts hE hl hW
  revert hW; generalize s.heap = H; intro hW
  have hl : lv_has ls 4 [(0, .ref (adX 0)), (1, .int x1), (2, .int x2)] := hl
  rw [f_X0_say] at hf
  refine lv_aload_n hx hb dX0_say_0 rfl (lv_at hl 0 rfl) ?_
  refine b_get hx hb hts in_X0 hown hW 0 0 0 0 rfl xW_0 rfl (by decide) ⟨rfl, rfl, rfl⟩ (hts _ q227) xW_g0 dX0_say_1 ?_
  refine lv_iload_n hx hb dX0_say_4 rfl (lv_at hl 1 rfl) ?_
  obtain ⟨r1, hc1, hf⟩ := o_b1s hf
  have hp1 : List.Perm [xW g adX (adN 0) (adT 0) iX X, vW g adN N] ([vW g adN N] ++ [xW g adX (adN 0) (adT 0) iX X]) := b_perm [1] [0] 2 rfl rfl rfl rfl
  refine b_call0 ⟨rfl, rfl⟩ (va_runV (As := [.int x1]) (rest := []) ⟨hx, hb, hml, hown, hts⟩ (m_X1_isInn l D g H.size adN N x1 r1 hc1) (cwV 1 hts (lw_V q672 q673 q674 q77 q675) rfl rfl rfl (by decide +kernel) ⟨Nat.le_of_ble_eq_true rfl, Nat.le_of_ble_eq_true rfl⟩) (b_preV (pp := 1) (q := 0) hW hp1 rfl vW_0 rfl) rfl rfl hl.1 rfl (lv_room (Nat.le_of_ble_eq_true rfl)) dX0_say_5 ⟨Nat.le_of_ble_eq_true rfl, Nat.le_of_ble_eq_true rfl⟩) hW hp1 (fun _ _ H locs hW => ?_)
  have hW : bW D g A s H locs [vW g adN N, xW g adX (adN 0) (adT 0) iX X] := hW
  refine lv_if_eq (tgt := 21) hx hb dX0_say_8 (by decide) (fun c2 => ?_) (fun c2 => ?_)
  · have hf := o_t hf c2
    refine lv_aload_n hx hb dX0_say_21 rfl (lv_at hl 0 rfl) ?_
    refine lv_bipush (v := (-2)) hx hb dX0_say_22 (by decide) ?_
    obtain ⟨r3, X4, hc4, hf⟩ := o_b2s hf
    have hp4 : List.Perm [vW g adN N, xW g adX (adN 0) (adT 0) iX X] ([xW g adX (adN 0) (adT 0) iX X] ++ [vW g adN N]) := b_perm [1] [0] 2 rfl rfl rfl rfl
    refine b_call0 ⟨rfl, rfl⟩ (va_runV (As := [.int (-2)]) (rest := []) ⟨hx, hb, hml, hown, hts⟩ (m_X0_no l D g H.size adX iX adN adT X (-2) r3 X4 hc4) (cwV 1 hts (lw_V q347 q349 qs2 q76 q350) rfl rfl rfl (by decide +kernel) ⟨Nat.le_of_ble_eq_true rfl, Nat.le_of_ble_eq_true rfl⟩) (b_preV (pp := 1) (q := 0) hW hp4 rfl xW_0 rfl) rfl rfl hl.1 rfl (lv_room (Nat.le_of_ble_eq_true rfl)) dX0_say_24 ⟨Nat.le_of_ble_eq_true rfl, Nat.le_of_ble_eq_true rfl⟩) hW hp4 (fun _ _ H locs hW => ?_)
    have hW : bW D g A s H locs [xW g adX (adN 0) (adT 0) iX X4, vW g adN N] := hW
    cases hf
    exact b_iret hx hb hr hlk hE hW () rfl trivial rfl dX0_say_27
  · have hf := o_f hf c2
    refine lv_iload_n hx hb dX0_say_11 rfl (lv_at hl 2 rfl) ?_
    refine lv_iconst (v := (-1)) hx hb dX0_say_12 (by decide) ?_
    refine lv_bipush (v := 100) hx hb dX0_say_13 (by decide) ?_
    obtain ⟨r5, hc5, hf⟩ := o_b1s hf
    have hp5 : List.Perm [vW g adN N, xW g adX (adN 0) (adT 0) iX X] ([] ++ [vW g adN N, xW g adX (adN 0) (adT 0) iX X]) := b_perm [] [0, 1] 2 rfl rfl rfl rfl
    refine b_call0 ⟨rfl, rfl⟩ (va_runS (As := [.int x2, .int (-1), .int 100]) (rest := []) ⟨hx, hb, hml, hown, hts⟩ (m_X0_isIn l D g H.size x2 (-1) 100 r5 hc5) (va_cwS 3 hts (lw_S q344 q345 q76 q346) rfl rfl rfl (by decide +kernel) ⟨Nat.le_of_ble_eq_true rfl, Nat.le_of_ble_eq_true rfl⟩) (b_preS hW hp5) rfl rfl hl.1 rfl (lv_room (Nat.le_of_ble_eq_true rfl)) dX0_say_15 ⟨Nat.le_of_ble_eq_true rfl, Nat.le_of_ble_eq_true rfl⟩) hW hp5 (fun _ _ H locs hW => ?_)
    have hW : bW D g A s H locs [vW g adN N, xW g adX (adN 0) (adT 0) iX X] := hW
    refine lv_if_ne (tgt := 28) hx hb dX0_say_18 (by decide) (fun c6 => ?_) (fun c6 => ?_)
    · have hf := o_f hf c6
      refine lv_aload_n hx hb dX0_say_28 rfl (lv_at hl 0 rfl) ?_
      refine b_get hx hb hts in_X0 hown hW 1 0 0 0 rfl xW_0 rfl (by decide) ⟨rfl, rfl, rfl⟩ (hts _ q227) xW_g0 dX0_say_29 ?_
      refine b_get hx hb hts in_X1 hown hW 0 0 1 4 rfl vW_0 rfl (by decide) ⟨rfl, rfl, rfl⟩ (hts _ q145) vW_g4 dX0_say_32 ?_
      refine lv_iload_n hx hb dX0_say_35 rfl (lv_at hl 1 rfl) ?_
      obtain ⟨h7, hf⟩ := o_cs hf
      refine b_iald hx hb hW 0 5 rfl vW_5 h7 dX0_say_36 ?_
      obtain ⟨v8, ev8, hf⟩ := o_ls hf
      refine b_topi ev8 ?_
      refine lv_istore_n (lv' := [(3, .int v8), (0, .ref (adX 0)), (1, .int x1), (2, .int x2)]) hx hb dX0_say_37 rfl hl (by decide) rfl (fun ls hl => ?_)
      refine lv_aload_n hx hb dX0_say_38 rfl (lv_at hl 1 rfl) ?_
      refine b_get hx hb hts in_X0 hown hW 1 0 0 0 rfl xW_0 rfl (by decide) ⟨rfl, rfl, rfl⟩ (hts _ q227) xW_g0 dX0_say_39 ?_
      refine b_get hx hb hts in_X1 hown hW 0 0 1 4 rfl vW_0 rfl (by decide) ⟨rfl, rfl, rfl⟩ (hts _ q145) vW_g4 dX0_say_42 ?_
      refine lv_iload_n hx hb dX0_say_45 rfl (lv_at hl 2 rfl) ?_
      refine lv_iload_n hx hb dX0_say_46 rfl (lv_at hl 3 rfl) ?_
      obtain ⟨N9, eN9, hf⟩ := o_ls hf
      refine b_iast hx hb hW 0 5 rfl vW_5 (vW_s5 eN9) rfl h7 dX0_say_47 (fun H locs hW => ?_)
      have hW : bW D g A s H locs [vW g adN N9, xW g adX (adN 0) (adT 0) iX X] := hW
      refine lv_iload_n hx hb dX0_say_48 rfl (lv_at hl 0 rfl) ?_
      cases hf
      exact b_iret hx hb hr hlk hE (b_perms hW (b_ord [1, 0] 2 rfl rfl rfl)) () rfl trivial rfl dX0_say_49
    · have hf := o_t hf c6
      refine lv_aload_n hx hb dX0_say_21 rfl (lv_at hl 0 rfl) ?_
      refine lv_bipush (v := (-2)) hx hb dX0_say_22 (by decide) ?_
      obtain ⟨r10, X11, hc11, hf⟩ := o_b2s hf
      have hp11 : List.Perm [vW g adN N, xW g adX (adN 0) (adT 0) iX X] ([xW g adX (adN 0) (adT 0) iX X] ++ [vW g adN N]) := b_perm [1] [0] 2 rfl rfl rfl rfl
      refine b_call0 ⟨rfl, rfl⟩ (va_runV (As := [.int (-2)]) (rest := []) ⟨hx, hb, hml, hown, hts⟩ (m_X0_no l D g H.size adX iX adN adT X (-2) r10 X11 hc11) (cwV 1 hts (lw_V q347 q349 qs2 q76 q350) rfl rfl rfl (by decide +kernel) ⟨Nat.le_of_ble_eq_true rfl, Nat.le_of_ble_eq_true rfl⟩) (b_preV (pp := 1) (q := 0) hW hp11 rfl xW_0 rfl) rfl rfl hl.1 rfl (lv_room (Nat.le_of_ble_eq_true rfl)) dX0_say_24 ⟨Nat.le_of_ble_eq_true rfl, Nat.le_of_ble_eq_true rfl⟩) hW hp11 (fun _ _ H locs hW => ?_)
      have hW : bW D g A s H locs [xW g adX (adN 0) (adT 0) iX X11, vW g adN N] := hW
      cases hf
      exact b_iret hx hb hr hlk hE hW () rfl trivial rfl dX0_say_27
def f_X0_write (fu : Nat) (X : BC) (N : BC) (x1 : Int32) : Option (Int32 × BC × BC) :=
 o_b1 (f_X0_allInns X N) fun (r1 : Int32) =>
 o_b1 (f_X0_isIn x1 0 r1) fun (r2 : Int32) =>
 (if r2 = 0 then
 o_b2 (f_X0_no X (-2)) fun (r6 : Int32) (X7 : BC) =>
 some (r6, X7, N)
 else
 o_b1 (f_X1_writes fu N x1) fun (N4 : BC) =>
 o_b1 (f_J11_bitCount x1) fun (r5 : Int32) =>
 some (r5, X, N4))
abbrev rm_X0_write : Room := { frames := 2, cells := 0, slots := 0, locals := 43 }
set_option maxHeartbeats 4000000 in
set_option maxRecDepth 100000 in
theorem m_X0_write (l : Launch) (D : va_G) (g : Nat → ClassId) (sz : Nat) (adX : Nat → Nat) (iX : Option Nat) (adN : Nat → Nat) (adT : Nat → Nat) (fu : Nat) (X : BC) (N : BC) (x1 : Int32) (rO : Int32) (XO : BC) (NO : BC) (hf : f_X0_write fu X N x1 = some (rO, XO, NO)) : bMet (S := Unit) l yX0_write (ws_ yX0_write cX0_write 2 (some .int)) rm_X0_write D g sz [.ref (adX 0), .int x1] [xW g adX (adN 0) (adT 0) iX X, vW g adN N] (fun _ => True) (fun _ => some (.int rO)) (fun _ => [xW g adX (adN 0) (adT 0) iX XO, vW g adN NO]) := by
  refine b_met (by decide) (Nat.le_of_ble_eq_true rfl) ?_
  intro p e s m args below meth c A Q ls hx hb hml hr hlk hown hname hts hE hl hW
  revert hW; generalize s.heap = H; intro hW
  have hl : lv_has ls 2 [(0, .ref (adX 0)), (1, .int x1)] := hl
  rw [f_X0_write] at hf
  refine lv_iload_n hx hb dX0_write_0 rfl (lv_at hl 1 rfl) ?_
  refine lv_iconst (v := 0) hx hb dX0_write_1 (by decide) ?_
  refine lv_aload_n hx hb dX0_write_2 rfl (lv_at hl 0 rfl) ?_
  obtain ⟨r1, hc1, hf⟩ := o_b1s hf
  have hp1 : List.Perm [xW g adX (adN 0) (adT 0) iX X, vW g adN N] ([xW g adX (adN 0) (adT 0) iX X, vW g adN N] ++ []) := b_perm [0, 1] [] 2 rfl rfl rfl rfl
  refine b_call0 ⟨rfl, rfl⟩ (va_runV (As := []) (rest := [.int 0, .int x1]) ⟨hx, hb, hml, hown, hts⟩ (m_X0_allInns l D g H.size adX iX adN adT X N r1 hc1) (cwV 0 hts (lw_V q512 q514 qs6 q76 q515) rfl rfl rfl (by decide +kernel) ⟨Nat.le_of_ble_eq_true rfl, Nat.le_of_ble_eq_true rfl⟩) (b_preV (pp := 0) (q := 0) hW hp1 rfl xW_0 rfl) rfl rfl hl.1 rfl (lv_room (Nat.le_of_ble_eq_true rfl)) dX0_write_3 ⟨Nat.le_of_ble_eq_true rfl, Nat.le_of_ble_eq_true rfl⟩) hW hp1 (fun _ _ H locs hW => ?_)
  have hW : bW D g A s H locs [xW g adX (adN 0) (adT 0) iX X, vW g adN N] := hW
  obtain ⟨r2, hc2, hf⟩ := o_b1s hf
  have hp2 : List.Perm [xW g adX (adN 0) (adT 0) iX X, vW g adN N] ([] ++ [xW g adX (adN 0) (adT 0) iX X, vW g adN N]) := b_perm [] [0, 1] 2 rfl rfl rfl rfl
  refine b_call0 ⟨rfl, rfl⟩ (va_runS (As := [.int x1, .int 0, .int r1]) (rest := []) ⟨hx, hb, hml, hown, hts⟩ (m_X0_isIn l D g H.size x1 0 r1 r2 hc2) (va_cwS 3 hts (lw_S q344 q345 q76 q346) rfl rfl rfl (by decide +kernel) ⟨Nat.le_of_ble_eq_true rfl, Nat.le_of_ble_eq_true rfl⟩) (b_preS hW hp2) rfl rfl hl.1 rfl (lv_room (Nat.le_of_ble_eq_true rfl)) dX0_write_6 ⟨Nat.le_of_ble_eq_true rfl, Nat.le_of_ble_eq_true rfl⟩) hW hp2 (fun _ _ H locs hW => ?_)
  have hW : bW D g A s H locs [xW g adX (adN 0) (adT 0) iX X, vW g adN N] := hW
  refine lv_if_ne (tgt := 19) hx hb dX0_write_9 (by decide) (fun c3 => ?_) (fun c3 => ?_)
  · have hf := o_f hf c3
    refine lv_aload_n hx hb dX0_write_19 rfl (lv_at hl 0 rfl) ?_
    refine b_get hx hb hts in_X0 hown hW 0 0 0 0 rfl xW_0 rfl (by decide) ⟨rfl, rfl, rfl⟩ (hts _ q227) xW_g0 dX0_write_20 ?_
    refine lv_iload_n hx hb dX0_write_23 rfl (lv_at hl 1 rfl) ?_
    obtain ⟨N4, hc4, hf⟩ := o_b1s hf
    have hp4 : List.Perm [xW g adX (adN 0) (adT 0) iX X, vW g adN N] ([vW g adN N] ++ [xW g adX (adN 0) (adT 0) iX X]) := b_perm [1] [0] 2 rfl rfl rfl rfl
    refine b_call0 ⟨rfl, rfl⟩ (va_runV (As := [.int x1]) (rest := []) ⟨hx, hb, hml, hown, hts⟩ (m_X1_writes l D g H.size adN fu N x1 N4 hc4) (cwV 1 hts (lw_V q685 q686 q687 q77 q688) rfl rfl rfl (by decide +kernel) ⟨Nat.le_of_ble_eq_true rfl, Nat.le_of_ble_eq_true rfl⟩) (b_preV (pp := 1) (q := 0) hW hp4 rfl vW_0 rfl) rfl rfl hl.1 rfl (lv_room (Nat.le_of_ble_eq_true rfl)) dX0_write_24 ⟨Nat.le_of_ble_eq_true rfl, Nat.le_of_ble_eq_true rfl⟩) hW hp4 (fun _ _ H locs hW => ?_)
    have hW : bW D g A s H locs [vW g adN N4, xW g adX (adN 0) (adT 0) iX X] := hW
    refine lv_iload_n hx hb dX0_write_27 rfl (lv_at hl 1 rfl) ?_
    obtain ⟨r5, hc5, hf⟩ := o_b1s hf
    have hp5 : List.Perm [vW g adN N4, xW g adX (adN 0) (adT 0) iX X] ([] ++ [vW g adN N4, xW g adX (adN 0) (adT 0) iX X]) := b_perm [] [0, 1] 2 rfl rfl rfl rfl
    refine b_call0 ⟨rfl, rfl⟩ (va_runS (As := [.int x1]) (rest := []) ⟨hx, hb, hml, hown, hts⟩ (m_J11_bitCount l D g H.size x1 r5 hc5) (va_cwS 1 hts (lw_S q690 q691 q99 q692) rfl rfl rfl (by decide +kernel) ⟨Nat.le_of_ble_eq_true rfl, Nat.le_of_ble_eq_true rfl⟩) (b_preS hW hp5) rfl rfl hl.1 rfl (lv_room (Nat.le_of_ble_eq_true rfl)) dX0_write_28 ⟨Nat.le_of_ble_eq_true rfl, Nat.le_of_ble_eq_true rfl⟩) hW hp5 (fun _ _ H locs hW => ?_)
    have hW : bW D g A s H locs [vW g adN N4, xW g adX (adN 0) (adT 0) iX X] := hW
    cases hf
    exact b_iret hx hb hr hlk hE (b_perms hW (b_ord [1, 0] 2 rfl rfl rfl)) () rfl trivial rfl dX0_write_31
  · have hf := o_t hf c3
    refine lv_aload_n hx hb dX0_write_12 rfl (lv_at hl 0 rfl) ?_
    refine lv_bipush (v := (-2)) hx hb dX0_write_13 (by decide) ?_
    obtain ⟨r6, X7, hc7, hf⟩ := o_b2s hf
    have hp7 : List.Perm [xW g adX (adN 0) (adT 0) iX X, vW g adN N] ([xW g adX (adN 0) (adT 0) iX X] ++ [vW g adN N]) := b_perm [0] [1] 2 rfl rfl rfl rfl
    refine b_call0 ⟨rfl, rfl⟩ (va_runV (As := [.int (-2)]) (rest := []) ⟨hx, hb, hml, hown, hts⟩ (m_X0_no l D g H.size adX iX adN adT X (-2) r6 X7 hc7) (cwV 1 hts (lw_V q347 q349 qs2 q76 q350) rfl rfl rfl (by decide +kernel) ⟨Nat.le_of_ble_eq_true rfl, Nat.le_of_ble_eq_true rfl⟩) (b_preV (pp := 0) (q := 0) hW hp7 rfl xW_0 rfl) rfl rfl hl.1 rfl (lv_room (Nat.le_of_ble_eq_true rfl)) dX0_write_15 ⟨Nat.le_of_ble_eq_true rfl, Nat.le_of_ble_eq_true rfl⟩) hW hp7 (fun _ _ H locs hW => ?_)
    have hW : bW D g A s H locs [xW g adX (adN 0) (adT 0) iX X7, vW g adN N] := hW
    cases hf
    exact b_iret hx hb hr hlk hE hW () rfl trivial rfl dX0_write_18
def f_X0_letter (X : BC) (N : BC) (x1 : Int32) (x2 : Int32) : Option (Int32 × BC × BC) :=
 o_b1 (f_X1_isInn N x1) fun (r1 : Int32) =>
 (if r1 = 0 then
 o_b2 (f_X0_no X (-2)) fun (r3 : Int32) (X4 : BC) =>
 some (r3, X4, N)
 else
 o_b1 (f_X0_isIn x2 0 100) fun (r5 : Int32) =>
 (if r5 = 0 then
 o_b2 (f_X0_no X (-2)) fun (r12 : Int32) (X13 : BC) =>
 some (r12, X13, N)
 else
 o_ck (inB x1 6) ((if (N.1 6 (ix x1)) = 99 then
 o_b2 (f_X0_no X (-6)) fun (r10 : Int32) (X11 : BC) =>
 some (r10, X11, N)
 else
 o_b1 (f_X1_gets N x1 x2) fun (N9 : BC) =>
 some (N9.1 6 (ix x1), X, N9)))))
abbrev rm_X0_letter : Room := { frames := 2, cells := 0, slots := 0, locals := 43 }
set_option maxHeartbeats 4000000 in
set_option maxRecDepth 100000 in
theorem m_X0_letter (l : Launch) (D : va_G) (g : Nat → ClassId) (sz : Nat) (adX : Nat → Nat) (iX : Option Nat) (adN : Nat → Nat) (adT : Nat → Nat) (X : BC) (N : BC) (x1 : Int32) (x2 : Int32) (rO : Int32) (XO : BC) (NO : BC) (hf : f_X0_letter X N x1 x2 = some (rO, XO, NO)) : bMet (S := Unit) l yX0_letter (ws_ yX0_letter cX0_letter 3 (some .int)) rm_X0_letter D g sz [.ref (adX 0), .int x1, .int x2] [xW g adX (adN 0) (adT 0) iX X, vW g adN N] (fun _ => True) (fun _ => some (.int rO)) (fun _ => [xW g adX (adN 0) (adT 0) iX XO, vW g adN NO]) := by
  refine b_met (by decide) (Nat.le_of_ble_eq_true rfl) ?_
  intro p e s m args below meth c A Q ls hx hb hml hr hlk hown hname hts hE hl hW
  revert hW; generalize s.heap = H; intro hW
  have hl : lv_has ls 3 [(0, .ref (adX 0)), (1, .int x1), (2, .int x2)] := hl
  rw [f_X0_letter] at hf
  refine lv_aload_n hx hb dX0_letter_0 rfl (lv_at hl 0 rfl) ?_
  refine b_get hx hb hts in_X0 hown hW 0 0 0 0 rfl xW_0 rfl (by decide) ⟨rfl, rfl, rfl⟩ (hts _ q227) xW_g0 dX0_letter_1 ?_
  refine lv_iload_n hx hb dX0_letter_4 rfl (lv_at hl 1 rfl) ?_
  obtain ⟨r1, hc1, hf⟩ := o_b1s hf
  have hp1 : List.Perm [xW g adX (adN 0) (adT 0) iX X, vW g adN N] ([vW g adN N] ++ [xW g adX (adN 0) (adT 0) iX X]) := b_perm [1] [0] 2 rfl rfl rfl rfl
  refine b_call0 ⟨rfl, rfl⟩ (va_runV (As := [.int x1]) (rest := []) ⟨hx, hb, hml, hown, hts⟩ (m_X1_isInn l D g H.size adN N x1 r1 hc1) (cwV 1 hts (lw_V q672 q673 q674 q77 q675) rfl rfl rfl (by decide +kernel) ⟨Nat.le_of_ble_eq_true rfl, Nat.le_of_ble_eq_true rfl⟩) (b_preV (pp := 1) (q := 0) hW hp1 rfl vW_0 rfl) rfl rfl hl.1 rfl (lv_room (Nat.le_of_ble_eq_true rfl)) dX0_letter_5 ⟨Nat.le_of_ble_eq_true rfl, Nat.le_of_ble_eq_true rfl⟩) hW hp1 (fun _ _ H locs hW => ?_)
  have hW : bW D g A s H locs [vW g adN N, xW g adX (adN 0) (adT 0) iX X] := hW
  refine lv_if_eq (tgt := 21) hx hb dX0_letter_8 (by decide) (fun c2 => ?_) (fun c2 => ?_)
  · have hf := o_t hf c2
    refine lv_aload_n hx hb dX0_letter_21 rfl (lv_at hl 0 rfl) ?_
    refine lv_bipush (v := (-2)) hx hb dX0_letter_22 (by decide) ?_
    obtain ⟨r3, X4, hc4, hf⟩ := o_b2s hf
    have hp4 : List.Perm [vW g adN N, xW g adX (adN 0) (adT 0) iX X] ([xW g adX (adN 0) (adT 0) iX X] ++ [vW g adN N]) := b_perm [1] [0] 2 rfl rfl rfl rfl
    refine b_call0 ⟨rfl, rfl⟩ (va_runV (As := [.int (-2)]) (rest := []) ⟨hx, hb, hml, hown, hts⟩ (m_X0_no l D g H.size adX iX adN adT X (-2) r3 X4 hc4) (cwV 1 hts (lw_V q347 q349 qs2 q76 q350) rfl rfl rfl (by decide +kernel) ⟨Nat.le_of_ble_eq_true rfl, Nat.le_of_ble_eq_true rfl⟩) (b_preV (pp := 1) (q := 0) hW hp4 rfl xW_0 rfl) rfl rfl hl.1 rfl (lv_room (Nat.le_of_ble_eq_true rfl)) dX0_letter_24 ⟨Nat.le_of_ble_eq_true rfl, Nat.le_of_ble_eq_true rfl⟩) hW hp4 (fun _ _ H locs hW => ?_)
    have hW : bW D g A s H locs [xW g adX (adN 0) (adT 0) iX X4, vW g adN N] := hW
    cases hf
    exact b_iret hx hb hr hlk hE hW () rfl trivial rfl dX0_letter_27
  · have hf := o_f hf c2
    refine lv_iload_n hx hb dX0_letter_11 rfl (lv_at hl 2 rfl) ?_
    refine lv_iconst (v := 0) hx hb dX0_letter_12 (by decide) ?_
    refine lv_bipush (v := 100) hx hb dX0_letter_13 (by decide) ?_
    obtain ⟨r5, hc5, hf⟩ := o_b1s hf
    have hp5 : List.Perm [vW g adN N, xW g adX (adN 0) (adT 0) iX X] ([] ++ [vW g adN N, xW g adX (adN 0) (adT 0) iX X]) := b_perm [] [0, 1] 2 rfl rfl rfl rfl
    refine b_call0 ⟨rfl, rfl⟩ (va_runS (As := [.int x2, .int 0, .int 100]) (rest := []) ⟨hx, hb, hml, hown, hts⟩ (m_X0_isIn l D g H.size x2 0 100 r5 hc5) (va_cwS 3 hts (lw_S q344 q345 q76 q346) rfl rfl rfl (by decide +kernel) ⟨Nat.le_of_ble_eq_true rfl, Nat.le_of_ble_eq_true rfl⟩) (b_preS hW hp5) rfl rfl hl.1 rfl (lv_room (Nat.le_of_ble_eq_true rfl)) dX0_letter_15 ⟨Nat.le_of_ble_eq_true rfl, Nat.le_of_ble_eq_true rfl⟩) hW hp5 (fun _ _ H locs hW => ?_)
    have hW : bW D g A s H locs [vW g adN N, xW g adX (adN 0) (adT 0) iX X] := hW
    refine lv_if_ne (tgt := 28) hx hb dX0_letter_18 (by decide) (fun c6 => ?_) (fun c6 => ?_)
    · have hf := o_f hf c6
      refine lv_aload_n hx hb dX0_letter_28 rfl (lv_at hl 0 rfl) ?_
      refine b_get hx hb hts in_X0 hown hW 1 0 0 0 rfl xW_0 rfl (by decide) ⟨rfl, rfl, rfl⟩ (hts _ q227) xW_g0 dX0_letter_29 ?_
      refine b_get hx hb hts in_X1 hown hW 0 0 1 5 rfl vW_0 rfl (by decide) ⟨rfl, rfl, rfl⟩ (hts _ q149) vW_g5 dX0_letter_32 ?_
      refine lv_iload_n hx hb dX0_letter_35 rfl (lv_at hl 1 rfl) ?_
      obtain ⟨h7, hf⟩ := o_cs hf
      refine b_iald hx hb hW 0 6 rfl vW_6 h7 dX0_letter_36 ?_
      refine lv_bipush (v := 99) hx hb dX0_letter_37 (by decide) ?_
      refine lv_icmp_ne (tgt := 49) hx hb dX0_letter_39 (by decide) (fun c8 => ?_) (fun c8 => ?_)
      · have hf := o_f hf c8
        refine lv_aload_n hx hb dX0_letter_49 rfl (lv_at hl 0 rfl) ?_
        refine b_get hx hb hts in_X0 hown hW 1 0 0 0 rfl xW_0 rfl (by decide) ⟨rfl, rfl, rfl⟩ (hts _ q227) xW_g0 dX0_letter_50 ?_
        refine lv_iload_n hx hb dX0_letter_53 rfl (lv_at hl 1 rfl) ?_
        refine lv_iload_n hx hb dX0_letter_54 rfl (lv_at hl 2 rfl) ?_
        obtain ⟨N9, hc9, hf⟩ := o_b1s hf
        have hp9 : List.Perm [vW g adN N, xW g adX (adN 0) (adT 0) iX X] ([vW g adN N] ++ [xW g adX (adN 0) (adT 0) iX X]) := b_perm [0] [1] 2 rfl rfl rfl rfl
        refine b_call0 ⟨rfl, rfl⟩ (va_runV (As := [.int x1, .int x2]) (rest := []) ⟨hx, hb, hml, hown, hts⟩ (m_X1_gets l D g H.size adN N x1 x2 N9 hc9) (cwV 2 hts (lw_V q700 q701 q702 q77 q703) rfl rfl rfl (by decide +kernel) ⟨Nat.le_of_ble_eq_true rfl, Nat.le_of_ble_eq_true rfl⟩) (b_preV (pp := 0) (q := 0) hW hp9 rfl vW_0 rfl) rfl rfl hl.1 rfl (lv_room (Nat.le_of_ble_eq_true rfl)) dX0_letter_55 ⟨Nat.le_of_ble_eq_true rfl, Nat.le_of_ble_eq_true rfl⟩) hW hp9 (fun _ _ H locs hW => ?_)
        have hW : bW D g A s H locs [vW g adN N9, xW g adX (adN 0) (adT 0) iX X] := hW
        refine lv_aload_n hx hb dX0_letter_58 rfl (lv_at hl 0 rfl) ?_
        refine b_get hx hb hts in_X0 hown hW 1 0 0 0 rfl xW_0 rfl (by decide) ⟨rfl, rfl, rfl⟩ (hts _ q227) xW_g0 dX0_letter_59 ?_
        refine b_get hx hb hts in_X1 hown hW 0 0 1 5 rfl vW_0 rfl (by decide) ⟨rfl, rfl, rfl⟩ (hts _ q149) vW_g5 dX0_letter_62 ?_
        refine lv_iload_n hx hb dX0_letter_65 rfl (lv_at hl 1 rfl) ?_
        refine b_iald hx hb hW 0 6 rfl vW_6 h7 dX0_letter_66 ?_
        cases hf
        exact b_iret hx hb hr hlk hE (b_perms hW (b_ord [1, 0] 2 rfl rfl rfl)) () rfl trivial rfl dX0_letter_67
      · have hf := o_t hf c8
        refine lv_aload_n hx hb dX0_letter_42 rfl (lv_at hl 0 rfl) ?_
        refine lv_bipush (v := (-6)) hx hb dX0_letter_43 (by decide) ?_
        obtain ⟨r10, X11, hc11, hf⟩ := o_b2s hf
        have hp11 : List.Perm [vW g adN N, xW g adX (adN 0) (adT 0) iX X] ([xW g adX (adN 0) (adT 0) iX X] ++ [vW g adN N]) := b_perm [1] [0] 2 rfl rfl rfl rfl
        refine b_call0 ⟨rfl, rfl⟩ (va_runV (As := [.int (-6)]) (rest := []) ⟨hx, hb, hml, hown, hts⟩ (m_X0_no l D g H.size adX iX adN adT X (-6) r10 X11 hc11) (cwV 1 hts (lw_V q347 q349 qs2 q76 q350) rfl rfl rfl (by decide +kernel) ⟨Nat.le_of_ble_eq_true rfl, Nat.le_of_ble_eq_true rfl⟩) (b_preV (pp := 1) (q := 0) hW hp11 rfl xW_0 rfl) rfl rfl hl.1 rfl (lv_room (Nat.le_of_ble_eq_true rfl)) dX0_letter_45 ⟨Nat.le_of_ble_eq_true rfl, Nat.le_of_ble_eq_true rfl⟩) hW hp11 (fun _ _ H locs hW => ?_)
        have hW : bW D g A s H locs [xW g adX (adN 0) (adT 0) iX X11, vW g adN N] := hW
        cases hf
        exact b_iret hx hb hr hlk hE hW () rfl trivial rfl dX0_letter_48
    · have hf := o_t hf c6
      refine lv_aload_n hx hb dX0_letter_21 rfl (lv_at hl 0 rfl) ?_
      refine lv_bipush (v := (-2)) hx hb dX0_letter_22 (by decide) ?_
      obtain ⟨r12, X13, hc13, hf⟩ := o_b2s hf
      have hp13 : List.Perm [vW g adN N, xW g adX (adN 0) (adT 0) iX X] ([xW g adX (adN 0) (adT 0) iX X] ++ [vW g adN N]) := b_perm [1] [0] 2 rfl rfl rfl rfl
      refine b_call0 ⟨rfl, rfl⟩ (va_runV (As := [.int (-2)]) (rest := []) ⟨hx, hb, hml, hown, hts⟩ (m_X0_no l D g H.size adX iX adN adT X (-2) r12 X13 hc13) (cwV 1 hts (lw_V q347 q349 qs2 q76 q350) rfl rfl rfl (by decide +kernel) ⟨Nat.le_of_ble_eq_true rfl, Nat.le_of_ble_eq_true rfl⟩) (b_preV (pp := 1) (q := 0) hW hp13 rfl xW_0 rfl) rfl rfl hl.1 rfl (lv_room (Nat.le_of_ble_eq_true rfl)) dX0_letter_24 ⟨Nat.le_of_ble_eq_true rfl, Nat.le_of_ble_eq_true rfl⟩) hW hp13 (fun _ _ H locs hW => ?_)
      have hW : bW D g A s H locs [xW g adX (adN 0) (adT 0) iX X13, vW g adN N] := hW
      cases hf
      exact b_iret hx hb hr hlk hE hW () rfl trivial rfl dX0_letter_27
def f_X0_age (X : BC) (N : BC) (x1 : Int32) : Option (Int32 × BC × BC) :=
 o_b1 (f_X0_isIn x1 0 99) fun (r1 : Int32) =>
 (if r1 = 0 then
 o_b2 (f_X0_no X (-2)) fun (r5 : Int32) (X6 : BC) =>
 some (r5, X6, N)
 else
 o_lt (N.1 0 2) fun (v3 : Int32) =>
 o_lt (bI N 0 (upd (N.1 0) 2 x1)) fun (N4 : BC) =>
 some (v3, X, N4))
abbrev rm_X0_age : Room := { frames := 1, cells := 0, slots := 0, locals := 22 }
set_option maxHeartbeats 4000000 in
set_option maxRecDepth 100000 in
theorem m_X0_age (l : Launch) (D : va_G) (g : Nat → ClassId) (sz : Nat) (adX : Nat → Nat) (iX : Option Nat) (adN : Nat → Nat) (adT : Nat → Nat) (X : BC) (N : BC) (x1 : Int32) (rO : Int32) (XO : BC) (NO : BC) (hf : f_X0_age X N x1 = some (rO, XO, NO)) : bMet (S := Unit) l yX0_age (ws_ yX0_age cX0_age 3 (some .int)) rm_X0_age D g sz [.ref (adX 0), .int x1] [xW g adX (adN 0) (adT 0) iX X, vW g adN N] (fun _ => True) (fun _ => some (.int rO)) (fun _ => [xW g adX (adN 0) (adT 0) iX XO, vW g adN NO]) := by
  refine b_met (by decide) (Nat.le_of_ble_eq_true rfl) ?_
  intro p e s m args below meth c A Q ls hx hb hml hr hlk hown hname hts hE hl hW
  revert hW; generalize s.heap = H; intro hW
  have hl : lv_has ls 3 [(0, .ref (adX 0)), (1, .int x1)] := hl
  rw [f_X0_age] at hf
  refine lv_iload_n hx hb dX0_age_0 rfl (lv_at hl 1 rfl) ?_
  refine lv_iconst (v := 0) hx hb dX0_age_1 (by decide) ?_
  refine lv_bipush (v := 99) hx hb dX0_age_2 (by decide) ?_
  obtain ⟨r1, hc1, hf⟩ := o_b1s hf
  have hp1 : List.Perm [xW g adX (adN 0) (adT 0) iX X, vW g adN N] ([] ++ [xW g adX (adN 0) (adT 0) iX X, vW g adN N]) := b_perm [] [0, 1] 2 rfl rfl rfl rfl
  refine b_call0 ⟨rfl, rfl⟩ (va_runS (As := [.int x1, .int 0, .int 99]) (rest := []) ⟨hx, hb, hml, hown, hts⟩ (m_X0_isIn l D g H.size x1 0 99 r1 hc1) (va_cwS 3 hts (lw_S q344 q345 q76 q346) rfl rfl rfl (by decide +kernel) ⟨Nat.le_of_ble_eq_true rfl, Nat.le_of_ble_eq_true rfl⟩) (b_preS hW hp1) rfl rfl hl.1 rfl (lv_room (Nat.le_of_ble_eq_true rfl)) dX0_age_4 ⟨Nat.le_of_ble_eq_true rfl, Nat.le_of_ble_eq_true rfl⟩) hW hp1 (fun _ _ H locs hW => ?_)
  have hW : bW D g A s H locs [xW g adX (adN 0) (adT 0) iX X, vW g adN N] := hW
  refine lv_if_ne (tgt := 17) hx hb dX0_age_7 (by decide) (fun c2 => ?_) (fun c2 => ?_)
  · have hf := o_f hf c2
    refine lv_aload_n hx hb dX0_age_17 rfl (lv_at hl 0 rfl) ?_
    refine b_get hx hb hts in_X0 hown hW 0 0 0 0 rfl xW_0 rfl (by decide) ⟨rfl, rfl, rfl⟩ (hts _ q227) xW_g0 dX0_age_18 ?_
    refine b_get hx hb hts in_X1 hown hW 1 0 1 14 rfl vW_0 rfl (by decide) ⟨rfl, rfl, rfl⟩ (hts _ q174) vW_g14 dX0_age_21 ?_
    obtain ⟨v3, ev3, hf⟩ := o_ls hf
    refine b_topi ev3 ?_
    refine lv_istore_n (lv' := [(2, .int v3), (0, .ref (adX 0)), (1, .int x1)]) hx hb dX0_age_24 rfl hl (by decide) rfl (fun ls hl => ?_)
    refine lv_aload_n hx hb dX0_age_25 rfl (lv_at hl 1 rfl) ?_
    refine b_get hx hb hts in_X0 hown hW 0 0 0 0 rfl xW_0 rfl (by decide) ⟨rfl, rfl, rfl⟩ (hts _ q227) xW_g0 dX0_age_26 ?_
    refine lv_iload_n hx hb dX0_age_29 rfl (lv_at hl 2 rfl) ?_
    obtain ⟨N4, eN4, hf⟩ := o_ls hf
    refine b_put hx hb hts in_X1 tyX1 tyX1_ok nmX1 hown hW 1 0 1 14 rfl vW_0 (vW_p14 eN4) rfl rfl (by decide) ⟨rfl, rfl, rfl⟩ (hts _ q174) rfl (ty := .int) rfl rfl rfl (by rw [vW_l]; decide) dX0_age_30 (fun H locs hW => ?_)
    have hW : bW D g A s H locs [xW g adX (adN 0) (adT 0) iX X, vW g adN N4] := hW
    refine lv_iload_n hx hb dX0_age_33 rfl (lv_at hl 0 rfl) ?_
    cases hf
    exact b_iret hx hb hr hlk hE hW () rfl trivial rfl dX0_age_34
  · have hf := o_t hf c2
    refine lv_aload_n hx hb dX0_age_10 rfl (lv_at hl 0 rfl) ?_
    refine lv_bipush (v := (-2)) hx hb dX0_age_11 (by decide) ?_
    obtain ⟨r5, X6, hc6, hf⟩ := o_b2s hf
    have hp6 : List.Perm [xW g adX (adN 0) (adT 0) iX X, vW g adN N] ([xW g adX (adN 0) (adT 0) iX X] ++ [vW g adN N]) := b_perm [0] [1] 2 rfl rfl rfl rfl
    refine b_call0 ⟨rfl, rfl⟩ (va_runV (As := [.int (-2)]) (rest := []) ⟨hx, hb, hml, hown, hts⟩ (m_X0_no l D g H.size adX iX adN adT X (-2) r5 X6 hc6) (cwV 1 hts (lw_V q347 q349 qs2 q76 q350) rfl rfl rfl (by decide +kernel) ⟨Nat.le_of_ble_eq_true rfl, Nat.le_of_ble_eq_true rfl⟩) (b_preV (pp := 0) (q := 0) hW hp6 rfl xW_0 rfl) rfl rfl hl.1 rfl (lv_room (Nat.le_of_ble_eq_true rfl)) dX0_age_13 ⟨Nat.le_of_ble_eq_true rfl, Nat.le_of_ble_eq_true rfl⟩) hW hp6 (fun _ _ H locs hW => ?_)
    have hW : bW D g A s H locs [xW g adX (adN 0) (adT 0) iX X6, vW g adN N] := hW
    cases hf
    exact b_iret hx hb hr hlk hE hW () rfl trivial rfl dX0_age_16
def f_X0_heads (X : BC) (N : BC) (x1 : Int32) (x2 : Int32) : Option (Int32 × BC × BC) :=
 o_b1 (f_X0_isGoer X N x1) fun (r1 : Int32) =>
 (if r1 = 0 then
 o_b2 (f_X0_no X (-2)) fun (r3 : Int32) (X4 : BC) =>
 some (r3, X4, N)
 else
 o_b1 (f_X0_isIn x2 1 30) fun (r5 : Int32) =>
 (if r5 = 0 then
 o_b2 (f_X0_no X (-2)) fun (r10 : Int32) (X11 : BC) =>
 some (r10, X11, N)
 else
 o_ck (inB x1 6) (o_lt (N.1 9 (ix x1)) fun (v8 : Int32) =>
 o_lt (bI N 9 (upd (N.1 9) (ix x1) x2)) fun (N9 : BC) =>
 some (v8, X, N9))))
abbrev rm_X0_heads : Room := { frames := 2, cells := 0, slots := 0, locals := 43 }
set_option maxHeartbeats 4000000 in
set_option maxRecDepth 100000 in
theorem m_X0_heads (l : Launch) (D : va_G) (g : Nat → ClassId) (sz : Nat) (adX : Nat → Nat) (iX : Option Nat) (adN : Nat → Nat) (adT : Nat → Nat) (X : BC) (N : BC) (x1 : Int32) (x2 : Int32) (rO : Int32) (XO : BC) (NO : BC) (hf : f_X0_heads X N x1 x2 = some (rO, XO, NO)) : bMet (S := Unit) l yX0_heads (ws_ yX0_heads cX0_heads 4 (some .int)) rm_X0_heads D g sz [.ref (adX 0), .int x1, .int x2] [xW g adX (adN 0) (adT 0) iX X, vW g adN N] (fun _ => True) (fun _ => some (.int rO)) (fun _ => [xW g adX (adN 0) (adT 0) iX XO, vW g adN NO]) := by
  refine b_met (by decide) (Nat.le_of_ble_eq_true rfl) ?_
  intro p e s m args below meth c A Q ls hx hb hml hr hlk hown hname hts hE hl hW
  revert hW; generalize s.heap = H; intro hW
  have hl : lv_has ls 4 [(0, .ref (adX 0)), (1, .int x1), (2, .int x2)] := hl
  rw [f_X0_heads] at hf
  refine lv_aload_n hx hb dX0_heads_0 rfl (lv_at hl 0 rfl) ?_
  refine lv_iload_n hx hb dX0_heads_1 rfl (lv_at hl 1 rfl) ?_
  obtain ⟨r1, hc1, hf⟩ := o_b1s hf
  have hp1 : List.Perm [xW g adX (adN 0) (adT 0) iX X, vW g adN N] ([xW g adX (adN 0) (adT 0) iX X, vW g adN N] ++ []) := b_perm [0, 1] [] 2 rfl rfl rfl rfl
  refine b_call0 ⟨rfl, rfl⟩ (va_runV (As := [.int x1]) (rest := []) ⟨hx, hb, hml, hown, hts⟩ (m_X0_isGoer l D g H.size adX iX adN adT X N x1 r1 hc1) (cwV 1 hts (lw_V q485 q487 qs4 q76 q488) rfl rfl rfl (by decide +kernel) ⟨Nat.le_of_ble_eq_true rfl, Nat.le_of_ble_eq_true rfl⟩) (b_preV (pp := 0) (q := 0) hW hp1 rfl xW_0 rfl) rfl rfl hl.1 rfl (lv_room (Nat.le_of_ble_eq_true rfl)) dX0_heads_2 ⟨Nat.le_of_ble_eq_true rfl, Nat.le_of_ble_eq_true rfl⟩) hW hp1 (fun _ _ H locs hW => ?_)
  have hW : bW D g A s H locs [xW g adX (adN 0) (adT 0) iX X, vW g adN N] := hW
  refine lv_if_eq (tgt := 18) hx hb dX0_heads_5 (by decide) (fun c2 => ?_) (fun c2 => ?_)
  · have hf := o_t hf c2
    refine lv_aload_n hx hb dX0_heads_18 rfl (lv_at hl 0 rfl) ?_
    refine lv_bipush (v := (-2)) hx hb dX0_heads_19 (by decide) ?_
    obtain ⟨r3, X4, hc4, hf⟩ := o_b2s hf
    have hp4 : List.Perm [xW g adX (adN 0) (adT 0) iX X, vW g adN N] ([xW g adX (adN 0) (adT 0) iX X] ++ [vW g adN N]) := b_perm [0] [1] 2 rfl rfl rfl rfl
    refine b_call0 ⟨rfl, rfl⟩ (va_runV (As := [.int (-2)]) (rest := []) ⟨hx, hb, hml, hown, hts⟩ (m_X0_no l D g H.size adX iX adN adT X (-2) r3 X4 hc4) (cwV 1 hts (lw_V q347 q349 qs2 q76 q350) rfl rfl rfl (by decide +kernel) ⟨Nat.le_of_ble_eq_true rfl, Nat.le_of_ble_eq_true rfl⟩) (b_preV (pp := 0) (q := 0) hW hp4 rfl xW_0 rfl) rfl rfl hl.1 rfl (lv_room (Nat.le_of_ble_eq_true rfl)) dX0_heads_21 ⟨Nat.le_of_ble_eq_true rfl, Nat.le_of_ble_eq_true rfl⟩) hW hp4 (fun _ _ H locs hW => ?_)
    have hW : bW D g A s H locs [xW g adX (adN 0) (adT 0) iX X4, vW g adN N] := hW
    cases hf
    exact b_iret hx hb hr hlk hE hW () rfl trivial rfl dX0_heads_24
  · have hf := o_f hf c2
    refine lv_iload_n hx hb dX0_heads_8 rfl (lv_at hl 2 rfl) ?_
    refine lv_iconst (v := 1) hx hb dX0_heads_9 (by decide) ?_
    refine lv_bipush (v := 30) hx hb dX0_heads_10 (by decide) ?_
    obtain ⟨r5, hc5, hf⟩ := o_b1s hf
    have hp5 : List.Perm [xW g adX (adN 0) (adT 0) iX X, vW g adN N] ([] ++ [xW g adX (adN 0) (adT 0) iX X, vW g adN N]) := b_perm [] [0, 1] 2 rfl rfl rfl rfl
    refine b_call0 ⟨rfl, rfl⟩ (va_runS (As := [.int x2, .int 1, .int 30]) (rest := []) ⟨hx, hb, hml, hown, hts⟩ (m_X0_isIn l D g H.size x2 1 30 r5 hc5) (va_cwS 3 hts (lw_S q344 q345 q76 q346) rfl rfl rfl (by decide +kernel) ⟨Nat.le_of_ble_eq_true rfl, Nat.le_of_ble_eq_true rfl⟩) (b_preS hW hp5) rfl rfl hl.1 rfl (lv_room (Nat.le_of_ble_eq_true rfl)) dX0_heads_12 ⟨Nat.le_of_ble_eq_true rfl, Nat.le_of_ble_eq_true rfl⟩) hW hp5 (fun _ _ H locs hW => ?_)
    have hW : bW D g A s H locs [xW g adX (adN 0) (adT 0) iX X, vW g adN N] := hW
    refine lv_if_ne (tgt := 25) hx hb dX0_heads_15 (by decide) (fun c6 => ?_) (fun c6 => ?_)
    · have hf := o_f hf c6
      refine lv_aload_n hx hb dX0_heads_25 rfl (lv_at hl 0 rfl) ?_
      refine b_get hx hb hts in_X0 hown hW 0 0 0 0 rfl xW_0 rfl (by decide) ⟨rfl, rfl, rfl⟩ (hts _ q227) xW_g0 dX0_heads_26 ?_
      refine b_get hx hb hts in_X1 hown hW 1 0 1 8 rfl vW_0 rfl (by decide) ⟨rfl, rfl, rfl⟩ (hts _ q156) vW_g8 dX0_heads_29 ?_
      refine lv_iload_n hx hb dX0_heads_32 rfl (lv_at hl 1 rfl) ?_
      obtain ⟨h7, hf⟩ := o_cs hf
      refine b_iald hx hb hW 1 9 rfl vW_9 h7 dX0_heads_33 ?_
      obtain ⟨v8, ev8, hf⟩ := o_ls hf
      refine b_topi ev8 ?_
      refine lv_istore_n (lv' := [(3, .int v8), (0, .ref (adX 0)), (1, .int x1), (2, .int x2)]) hx hb dX0_heads_34 rfl hl (by decide) rfl (fun ls hl => ?_)
      refine lv_aload_n hx hb dX0_heads_35 rfl (lv_at hl 1 rfl) ?_
      refine b_get hx hb hts in_X0 hown hW 0 0 0 0 rfl xW_0 rfl (by decide) ⟨rfl, rfl, rfl⟩ (hts _ q227) xW_g0 dX0_heads_36 ?_
      refine b_get hx hb hts in_X1 hown hW 1 0 1 8 rfl vW_0 rfl (by decide) ⟨rfl, rfl, rfl⟩ (hts _ q156) vW_g8 dX0_heads_39 ?_
      refine lv_iload_n hx hb dX0_heads_42 rfl (lv_at hl 2 rfl) ?_
      refine lv_iload_n hx hb dX0_heads_43 rfl (lv_at hl 3 rfl) ?_
      obtain ⟨N9, eN9, hf⟩ := o_ls hf
      refine b_iast hx hb hW 1 9 rfl vW_9 (vW_s9 eN9) rfl h7 dX0_heads_44 (fun H locs hW => ?_)
      have hW : bW D g A s H locs [xW g adX (adN 0) (adT 0) iX X, vW g adN N9] := hW
      refine lv_iload_n hx hb dX0_heads_45 rfl (lv_at hl 0 rfl) ?_
      cases hf
      exact b_iret hx hb hr hlk hE hW () rfl trivial rfl dX0_heads_46
    · have hf := o_t hf c6
      refine lv_aload_n hx hb dX0_heads_18 rfl (lv_at hl 0 rfl) ?_
      refine lv_bipush (v := (-2)) hx hb dX0_heads_19 (by decide) ?_
      obtain ⟨r10, X11, hc11, hf⟩ := o_b2s hf
      have hp11 : List.Perm [xW g adX (adN 0) (adT 0) iX X, vW g adN N] ([xW g adX (adN 0) (adT 0) iX X] ++ [vW g adN N]) := b_perm [0] [1] 2 rfl rfl rfl rfl
      refine b_call0 ⟨rfl, rfl⟩ (va_runV (As := [.int (-2)]) (rest := []) ⟨hx, hb, hml, hown, hts⟩ (m_X0_no l D g H.size adX iX adN adT X (-2) r10 X11 hc11) (cwV 1 hts (lw_V q347 q349 qs2 q76 q350) rfl rfl rfl (by decide +kernel) ⟨Nat.le_of_ble_eq_true rfl, Nat.le_of_ble_eq_true rfl⟩) (b_preV (pp := 0) (q := 0) hW hp11 rfl xW_0 rfl) rfl rfl hl.1 rfl (lv_room (Nat.le_of_ble_eq_true rfl)) dX0_heads_21 ⟨Nat.le_of_ble_eq_true rfl, Nat.le_of_ble_eq_true rfl⟩) hW hp11 (fun _ _ H locs hW => ?_)
      have hW : bW D g A s H locs [xW g adX (adN 0) (adT 0) iX X11, vW g adN N] := hW
      cases hf
      exact b_iret hx hb hr hlk hE hW () rfl trivial rfl dX0_heads_24
def f_X0_feed (X : BC) (x1 : Int32) : Option (Int32 × BC) :=
 o_b1 (f_X0_isIn x1 0 255) fun (r1 : Int32) =>
 (if r1 = 0 then
 o_b2 (f_X0_no X (-2)) fun (r10 : Int32) (X11 : BC) =>
 some (r10, X11)
 else
 (if (X.1 0 0) = 250 then
 o_b2 (f_X0_no X (-6)) fun (r8 : Int32) (X9 : BC) =>
 some (r8, X9)
 else
 o_ck (inB (X.1 0 0) 250) (o_lt (bI X 10 (upd (X.1 10) (ix (X.1 0 0)) x1)) fun (X5 : BC) =>
 o_lt ((X5.1 0 0) + 1) fun (v6 : Int32) =>
 o_lt (bI X5 0 (upd (X5.1 0) 0 v6)) fun (X7 : BC) =>
 some (X7.1 0 0, X7))))
abbrev rm_X0_feed : Room := { frames := 1, cells := 0, slots := 0, locals := 22 }
set_option maxHeartbeats 4000000 in
set_option maxRecDepth 100000 in
theorem m_X0_feed (l : Launch) (D : va_G) (g : Nat → ClassId) (sz : Nat) (adX : Nat → Nat) (iX : Option Nat) (adN : Nat → Nat) (adT : Nat → Nat) (X : BC) (x1 : Int32) (rO : Int32) (XO : BC) (hf : f_X0_feed X x1 = some (rO, XO)) : bMet (S := Unit) l yX0_feed (ws_ yX0_feed cX0_feed 2 (some .int)) rm_X0_feed D g sz [.ref (adX 0), .int x1] [xW g adX (adN 0) (adT 0) iX X] (fun _ => True) (fun _ => some (.int rO)) (fun _ => [xW g adX (adN 0) (adT 0) iX XO]) := by
  refine b_met (by decide) (Nat.le_of_ble_eq_true rfl) ?_
  intro p e s m args below meth c A Q ls hx hb hml hr hlk hown hname hts hE hl hW
  revert hW; generalize s.heap = H; intro hW
  have hl : lv_has ls 2 [(0, .ref (adX 0)), (1, .int x1)] := hl
  rw [f_X0_feed] at hf
  refine lv_iload_n hx hb dX0_feed_0 rfl (lv_at hl 1 rfl) ?_
  refine lv_iconst (v := 0) hx hb dX0_feed_1 (by decide) ?_
  refine lv_sipush (v := 255) hx hb dX0_feed_2 (by decide) ?_
  obtain ⟨r1, hc1, hf⟩ := o_b1s hf
  have hp1 : List.Perm [xW g adX (adN 0) (adT 0) iX X] ([] ++ [xW g adX (adN 0) (adT 0) iX X]) := b_perm [] [0] 1 rfl rfl rfl rfl
  refine b_call0 ⟨rfl, rfl⟩ (va_runS (As := [.int x1, .int 0, .int 255]) (rest := []) ⟨hx, hb, hml, hown, hts⟩ (m_X0_isIn l D g H.size x1 0 255 r1 hc1) (va_cwS 3 hts (lw_S q344 q345 q76 q346) rfl rfl rfl (by decide +kernel) ⟨Nat.le_of_ble_eq_true rfl, Nat.le_of_ble_eq_true rfl⟩) (b_preS hW hp1) rfl rfl hl.1 rfl (lv_room (Nat.le_of_ble_eq_true rfl)) dX0_feed_5 ⟨Nat.le_of_ble_eq_true rfl, Nat.le_of_ble_eq_true rfl⟩) hW hp1 (fun _ _ H locs hW => ?_)
  have hW : bW D g A s H locs [xW g adX (adN 0) (adT 0) iX X] := hW
  refine lv_if_ne (tgt := 18) hx hb dX0_feed_8 (by decide) (fun c2 => ?_) (fun c2 => ?_)
  · have hf := o_f hf c2
    refine lv_aload_n hx hb dX0_feed_18 rfl (lv_at hl 0 rfl) ?_
    refine b_get hx hb hts in_X0 hown hW 0 0 0 5 rfl xW_0 rfl (by decide) ⟨rfl, rfl, rfl⟩ (hts _ q232) xW_g5 dX0_feed_19 ?_
    refine lv_sipush (v := 250) hx hb dX0_feed_22 (by decide) ?_
    refine lv_icmp_ne (tgt := 35) hx hb dX0_feed_25 (by decide) (fun c3 => ?_) (fun c3 => ?_)
    · have hf := o_f hf c3
      refine lv_aload_n hx hb dX0_feed_35 rfl (lv_at hl 0 rfl) ?_
      refine b_get hx hb hts in_X0 hown hW 0 0 0 4 rfl xW_0 rfl (by decide) ⟨rfl, rfl, rfl⟩ (hts _ q231) xW_g4 dX0_feed_36 ?_
      refine lv_aload_n hx hb dX0_feed_39 rfl (lv_at hl 0 rfl) ?_
      refine b_get hx hb hts in_X0 hown hW 0 0 0 5 rfl xW_0 rfl (by decide) ⟨rfl, rfl, rfl⟩ (hts _ q232) xW_g5 dX0_feed_40 ?_
      refine lv_iload_n hx hb dX0_feed_43 rfl (lv_at hl 1 rfl) ?_
      obtain ⟨h4, hf⟩ := o_cs hf
      obtain ⟨X5, eX5, hf⟩ := o_ls hf
      refine b_iast hx hb hW 0 10 rfl xW_10 (xW_s10 eX5) rfl h4 dX0_feed_44 (fun H locs hW => ?_)
      have hW : bW D g A s H locs [xW g adX (adN 0) (adT 0) iX X5] := hW
      refine lv_aload_n hx hb dX0_feed_45 rfl (lv_at hl 0 rfl) ?_
      refine lv_dup hx hb dX0_feed_46 rfl ?_
      refine b_get hx hb hts in_X0 hown hW 0 0 0 5 rfl xW_0 rfl (by decide) ⟨rfl, rfl, rfl⟩ (hts _ q232) xW_g5 dX0_feed_47 ?_
      refine lv_iconst (v := 1) hx hb dX0_feed_50 (by decide) ?_
      refine lv_iadd hx hb dX0_feed_51 ?_
      obtain ⟨v6, ev6, hf⟩ := o_ls hf
      refine b_topi ev6 ?_
      obtain ⟨X7, eX7, hf⟩ := o_ls hf
      refine b_put hx hb hts in_X0 tyX0 tyX0_ok nmX0 hown hW 0 0 0 5 rfl xW_0 (xW_p5 eX7) rfl rfl (by decide) ⟨rfl, rfl, rfl⟩ (hts _ q232) rfl (ty := .int) rfl rfl rfl (by rw [xW_l]; decide) dX0_feed_52 (fun H locs hW => ?_)
      have hW : bW D g A s H locs [xW g adX (adN 0) (adT 0) iX X7] := hW
      refine lv_aload_n hx hb dX0_feed_55 rfl (lv_at hl 0 rfl) ?_
      refine b_get hx hb hts in_X0 hown hW 0 0 0 5 rfl xW_0 rfl (by decide) ⟨rfl, rfl, rfl⟩ (hts _ q232) xW_g5 dX0_feed_56 ?_
      cases hf
      exact b_iret hx hb hr hlk hE hW () rfl trivial rfl dX0_feed_59
    · have hf := o_t hf c3
      refine lv_aload_n hx hb dX0_feed_28 rfl (lv_at hl 0 rfl) ?_
      refine lv_bipush (v := (-6)) hx hb dX0_feed_29 (by decide) ?_
      obtain ⟨r8, X9, hc9, hf⟩ := o_b2s hf
      have hp9 : List.Perm [xW g adX (adN 0) (adT 0) iX X] ([xW g adX (adN 0) (adT 0) iX X] ++ []) := b_perm [0] [] 1 rfl rfl rfl rfl
      refine b_call0 ⟨rfl, rfl⟩ (va_runV (As := [.int (-6)]) (rest := []) ⟨hx, hb, hml, hown, hts⟩ (m_X0_no l D g H.size adX iX adN adT X (-6) r8 X9 hc9) (cwV 1 hts (lw_V q347 q349 qs2 q76 q350) rfl rfl rfl (by decide +kernel) ⟨Nat.le_of_ble_eq_true rfl, Nat.le_of_ble_eq_true rfl⟩) (b_preV (pp := 0) (q := 0) hW hp9 rfl xW_0 rfl) rfl rfl hl.1 rfl (lv_room (Nat.le_of_ble_eq_true rfl)) dX0_feed_31 ⟨Nat.le_of_ble_eq_true rfl, Nat.le_of_ble_eq_true rfl⟩) hW hp9 (fun _ _ H locs hW => ?_)
      have hW : bW D g A s H locs [xW g adX (adN 0) (adT 0) iX X9] := hW
      cases hf
      exact b_iret hx hb hr hlk hE hW () rfl trivial rfl dX0_feed_34
  · have hf := o_t hf c2
    refine lv_aload_n hx hb dX0_feed_11 rfl (lv_at hl 0 rfl) ?_
    refine lv_bipush (v := (-2)) hx hb dX0_feed_12 (by decide) ?_
    obtain ⟨r10, X11, hc11, hf⟩ := o_b2s hf
    have hp11 : List.Perm [xW g adX (adN 0) (adT 0) iX X] ([xW g adX (adN 0) (adT 0) iX X] ++ []) := b_perm [0] [] 1 rfl rfl rfl rfl
    refine b_call0 ⟨rfl, rfl⟩ (va_runV (As := [.int (-2)]) (rest := []) ⟨hx, hb, hml, hown, hts⟩ (m_X0_no l D g H.size adX iX adN adT X (-2) r10 X11 hc11) (cwV 1 hts (lw_V q347 q349 qs2 q76 q350) rfl rfl rfl (by decide +kernel) ⟨Nat.le_of_ble_eq_true rfl, Nat.le_of_ble_eq_true rfl⟩) (b_preV (pp := 0) (q := 0) hW hp11 rfl xW_0 rfl) rfl rfl hl.1 rfl (lv_room (Nat.le_of_ble_eq_true rfl)) dX0_feed_14 ⟨Nat.le_of_ble_eq_true rfl, Nat.le_of_ble_eq_true rfl⟩) hW hp11 (fun _ _ H locs hW => ?_)
    have hW : bW D g A s H locs [xW g adX (adN 0) (adT 0) iX X11] := hW
    cases hf
    exact b_iret hx hb hr hlk hE hW () rfl trivial rfl dX0_feed_17
def f_X0_wipe (X : BC) : Option (Int32 × BC) :=
 o_lt (X.1 0 0) fun (v1 : Int32) =>
 o_lt (bI X 0 (upd (X.1 0) 0 0)) fun (X2 : BC) =>
 some (v1, X2)
abbrev rm_X0_wipe : Room := { frames := 0, cells := 0, slots := 0, locals := 0 }
set_option maxHeartbeats 4000000 in
set_option maxRecDepth 100000 in
theorem m_X0_wipe (l : Launch) (D : va_G) (g : Nat → ClassId) (sz : Nat) (adX : Nat → Nat) (iX : Option Nat) (adN : Nat → Nat) (adT : Nat → Nat) (X : BC) (rO : Int32) (XO : BC) (hf : f_X0_wipe X = some (rO, XO)) : bMet (S := Unit) l yX0_wipe (ws_ yX0_wipe cX0_wipe 2 (some .int)) rm_X0_wipe D g sz [.ref (adX 0)] [xW g adX (adN 0) (adT 0) iX X] (fun _ => True) (fun _ => some (.int rO)) (fun _ => [xW g adX (adN 0) (adT 0) iX XO]) := by
  refine b_met (by decide) (Nat.le_of_ble_eq_true rfl) ?_
  intro p e s m args below meth c A Q ls hx hb hml hr hlk hown hname hts hE hl hW
  revert hW; generalize s.heap = H; intro hW
  have hl : lv_has ls 2 [(0, .ref (adX 0))] := hl
  rw [f_X0_wipe] at hf
  refine lv_aload_n hx hb dX0_wipe_0 rfl (lv_at hl 0 rfl) ?_
  refine b_get hx hb hts in_X0 hown hW 0 0 0 5 rfl xW_0 rfl (by decide) ⟨rfl, rfl, rfl⟩ (hts _ q232) xW_g5 dX0_wipe_1 ?_
  obtain ⟨v1, ev1, hf⟩ := o_ls hf
  refine b_topi ev1 ?_
  refine lv_istore_n (lv' := [(1, .int v1), (0, .ref (adX 0))]) hx hb dX0_wipe_4 rfl hl (by decide) rfl (fun ls hl => ?_)
  refine lv_aload_n hx hb dX0_wipe_5 rfl (lv_at hl 1 rfl) ?_
  refine lv_iconst (v := 0) hx hb dX0_wipe_6 (by decide) ?_
  obtain ⟨X2, eX2, hf⟩ := o_ls hf
  refine b_put hx hb hts in_X0 tyX0 tyX0_ok nmX0 hown hW 0 0 0 5 rfl xW_0 (xW_p5 eX2) rfl rfl (by decide) ⟨rfl, rfl, rfl⟩ (hts _ q232) rfl (ty := .int) rfl rfl rfl (by rw [xW_l]; decide) dX0_wipe_7 (fun H locs hW => ?_)
  have hW : bW D g A s H locs [xW g adX (adN 0) (adT 0) iX X2] := hW
  refine lv_iload_n hx hb dX0_wipe_10 rfl (lv_at hl 0 rfl) ?_
  cases hf
  exact b_iret hx hb hr hlk hE hW () rfl trivial rfl dX0_wipe_11
def f_X0_innOf (X : BC) (N : BC) (x1 : Int32) (x2 : Int32) : Option (Int32 × BC) :=
 o_b1 (f_X1_isInn N x1) fun (r1 : Int32) =>
 (if r1 = 0 then
 o_b2 (f_X0_no X (-2)) fun (r19 : Int32) (X20 : BC) =>
 some (r19, X20)
 else
 (if x2 = 0 then
 o_ck (inB x1 6) (some (N.1 1 (ix x1), X))
 else
 (if x2 = 1 then
 o_ck (inB x1 6) (some (N.1 2 (ix x1), X))
 else
 (if x2 = 2 then
 o_ck (inB x1 6) (some (N.1 3 (ix x1), X))
 else
 (if x2 = 3 then
 o_ck (inB x1 6) (some (N.1 4 (ix x1), X))
 else
 (if x2 = 4 then
 o_ck (inB x1 6) (some (N.1 5 (ix x1), X))
 else
 (if x2 = 5 then
 o_ck (inB x1 6) (some (N.1 6 (ix x1), X))
 else
 (if x2 = 6 then
 o_ck (inB x1 6) (some (N.1 7 (ix x1), X))
 else
 o_b2 (f_X0_no X (-2)) fun (r17 : Int32) (X18 : BC) =>
 some (r17, X18)))))))))
abbrev rm_X0_innOf : Room := { frames := 2, cells := 0, slots := 0, locals := 43 }
set_option maxHeartbeats 4000000 in
set_option maxRecDepth 100000 in
theorem m_X0_innOf (l : Launch) (D : va_G) (g : Nat → ClassId) (sz : Nat) (adX : Nat → Nat) (iX : Option Nat) (adN : Nat → Nat) (adT : Nat → Nat) (X : BC) (N : BC) (x1 : Int32) (x2 : Int32) (rO : Int32) (XO : BC) (hf : f_X0_innOf X N x1 x2 = some (rO, XO)) : bMet (S := Unit) l yX0_innOf (ws_ yX0_innOf cX0_innOf 3 (some .int)) rm_X0_innOf D g sz [.ref (adX 0), .int x1, .int x2] [xW g adX (adN 0) (adT 0) iX X, vW g adN N] (fun _ => True) (fun _ => some (.int rO)) (fun _ => [xW g adX (adN 0) (adT 0) iX XO, vW g adN N]) := by
  refine b_met (by decide) (Nat.le_of_ble_eq_true rfl) ?_
  intro p e s m args below meth c A Q ls hx hb hml hr hlk hown hname hts hE hl hW
  revert hW; generalize s.heap = H; intro hW
  have hl : lv_has ls 3 [(0, .ref (adX 0)), (1, .int x1), (2, .int x2)] := hl
  rw [f_X0_innOf] at hf
  refine lv_aload_n hx hb dX0_innOf_0 rfl (lv_at hl 0 rfl) ?_
  refine b_get hx hb hts in_X0 hown hW 0 0 0 0 rfl xW_0 rfl (by decide) ⟨rfl, rfl, rfl⟩ (hts _ q227) xW_g0 dX0_innOf_1 ?_
  refine lv_iload_n hx hb dX0_innOf_4 rfl (lv_at hl 1 rfl) ?_
  obtain ⟨r1, hc1, hf⟩ := o_b1s hf
  have hp1 : List.Perm [xW g adX (adN 0) (adT 0) iX X, vW g adN N] ([vW g adN N] ++ [xW g adX (adN 0) (adT 0) iX X]) := b_perm [1] [0] 2 rfl rfl rfl rfl
  refine b_call0 ⟨rfl, rfl⟩ (va_runV (As := [.int x1]) (rest := []) ⟨hx, hb, hml, hown, hts⟩ (m_X1_isInn l D g H.size adN N x1 r1 hc1) (cwV 1 hts (lw_V q672 q673 q674 q77 q675) rfl rfl rfl (by decide +kernel) ⟨Nat.le_of_ble_eq_true rfl, Nat.le_of_ble_eq_true rfl⟩) (b_preV (pp := 1) (q := 0) hW hp1 rfl vW_0 rfl) rfl rfl hl.1 rfl (lv_room (Nat.le_of_ble_eq_true rfl)) dX0_innOf_5 ⟨Nat.le_of_ble_eq_true rfl, Nat.le_of_ble_eq_true rfl⟩) hW hp1 (fun _ _ H locs hW => ?_)
  have hW : bW D g A s H locs [vW g adN N, xW g adX (adN 0) (adT 0) iX X] := hW
  refine lv_if_ne (tgt := 18) hx hb dX0_innOf_8 (by decide) (fun c2 => ?_) (fun c2 => ?_)
  · have hf := o_f hf c2
    refine lv_iload_n hx hb dX0_innOf_18 rfl (lv_at hl 2 rfl) ?_
    by_cases c3 : x2 = 0
    · have hf := o_t hf c3
      refine lv_tableIn (off := 41) (tgt := 60) hx hb dX0_innOf_19 (by rw [c3]; decide) (by rw [c3]; decide) (by rw [c3]; rfl) (by decide) ?_
      refine lv_aload_n hx hb dX0_innOf_60 rfl (lv_at hl 0 rfl) ?_
      refine b_get hx hb hts in_X0 hown hW 1 0 0 0 rfl xW_0 rfl (by decide) ⟨rfl, rfl, rfl⟩ (hts _ q227) xW_g0 dX0_innOf_61 ?_
      refine b_get hx hb hts in_X1 hown hW 0 0 1 0 rfl vW_0 rfl (by decide) ⟨rfl, rfl, rfl⟩ (hts _ q131) vW_g0 dX0_innOf_64 ?_
      refine lv_iload_n hx hb dX0_innOf_67 rfl (lv_at hl 1 rfl) ?_
      obtain ⟨h4, hf⟩ := o_cs hf
      refine b_iald hx hb hW 0 1 rfl vW_1 h4 dX0_innOf_68 ?_
      cases hf
      exact b_iret hx hb hr hlk hE (b_perms hW (b_ord [1, 0] 2 rfl rfl rfl)) () rfl trivial rfl dX0_innOf_69
    · have hf := o_f hf c3
      by_cases c5 : x2 = 1
      · have hf := o_t hf c5
        refine lv_tableIn (off := 51) (tgt := 70) hx hb dX0_innOf_19 (by rw [c5]; decide) (by rw [c5]; decide) (by rw [c5]; rfl) (by decide) ?_
        refine lv_aload_n hx hb dX0_innOf_70 rfl (lv_at hl 0 rfl) ?_
        refine b_get hx hb hts in_X0 hown hW 1 0 0 0 rfl xW_0 rfl (by decide) ⟨rfl, rfl, rfl⟩ (hts _ q227) xW_g0 dX0_innOf_71 ?_
        refine b_get hx hb hts in_X1 hown hW 0 0 1 1 rfl vW_0 rfl (by decide) ⟨rfl, rfl, rfl⟩ (hts _ q133) vW_g1 dX0_innOf_74 ?_
        refine lv_iload_n hx hb dX0_innOf_77 rfl (lv_at hl 1 rfl) ?_
        obtain ⟨h6, hf⟩ := o_cs hf
        refine b_iald hx hb hW 0 2 rfl vW_2 h6 dX0_innOf_78 ?_
        cases hf
        exact b_iret hx hb hr hlk hE (b_perms hW (b_ord [1, 0] 2 rfl rfl rfl)) () rfl trivial rfl dX0_innOf_79
      · have hf := o_f hf c5
        by_cases c7 : x2 = 2
        · have hf := o_t hf c7
          refine lv_tableIn (off := 61) (tgt := 80) hx hb dX0_innOf_19 (by rw [c7]; decide) (by rw [c7]; decide) (by rw [c7]; rfl) (by decide) ?_
          refine lv_aload_n hx hb dX0_innOf_80 rfl (lv_at hl 0 rfl) ?_
          refine b_get hx hb hts in_X0 hown hW 1 0 0 0 rfl xW_0 rfl (by decide) ⟨rfl, rfl, rfl⟩ (hts _ q227) xW_g0 dX0_innOf_81 ?_
          refine b_get hx hb hts in_X1 hown hW 0 0 1 2 rfl vW_0 rfl (by decide) ⟨rfl, rfl, rfl⟩ (hts _ q135) vW_g2 dX0_innOf_84 ?_
          refine lv_iload_n hx hb dX0_innOf_87 rfl (lv_at hl 1 rfl) ?_
          obtain ⟨h8, hf⟩ := o_cs hf
          refine b_iald hx hb hW 0 3 rfl vW_3 h8 dX0_innOf_88 ?_
          cases hf
          exact b_iret hx hb hr hlk hE (b_perms hW (b_ord [1, 0] 2 rfl rfl rfl)) () rfl trivial rfl dX0_innOf_89
        · have hf := o_f hf c7
          by_cases c9 : x2 = 3
          · have hf := o_t hf c9
            refine lv_tableIn (off := 71) (tgt := 90) hx hb dX0_innOf_19 (by rw [c9]; decide) (by rw [c9]; decide) (by rw [c9]; rfl) (by decide) ?_
            refine lv_aload_n hx hb dX0_innOf_90 rfl (lv_at hl 0 rfl) ?_
            refine b_get hx hb hts in_X0 hown hW 1 0 0 0 rfl xW_0 rfl (by decide) ⟨rfl, rfl, rfl⟩ (hts _ q227) xW_g0 dX0_innOf_91 ?_
            refine b_get hx hb hts in_X1 hown hW 0 0 1 3 rfl vW_0 rfl (by decide) ⟨rfl, rfl, rfl⟩ (hts _ q139) vW_g3 dX0_innOf_94 ?_
            refine lv_iload_n hx hb dX0_innOf_97 rfl (lv_at hl 1 rfl) ?_
            obtain ⟨h10, hf⟩ := o_cs hf
            refine b_iald hx hb hW 0 4 rfl vW_4 h10 dX0_innOf_98 ?_
            cases hf
            exact b_iret hx hb hr hlk hE (b_perms hW (b_ord [1, 0] 2 rfl rfl rfl)) () rfl trivial rfl dX0_innOf_99
          · have hf := o_f hf c9
            by_cases c11 : x2 = 4
            · have hf := o_t hf c11
              refine lv_tableIn (off := 81) (tgt := 100) hx hb dX0_innOf_19 (by rw [c11]; decide) (by rw [c11]; decide) (by rw [c11]; rfl) (by decide) ?_
              refine lv_aload_n hx hb dX0_innOf_100 rfl (lv_at hl 0 rfl) ?_
              refine b_get hx hb hts in_X0 hown hW 1 0 0 0 rfl xW_0 rfl (by decide) ⟨rfl, rfl, rfl⟩ (hts _ q227) xW_g0 dX0_innOf_101 ?_
              refine b_get hx hb hts in_X1 hown hW 0 0 1 4 rfl vW_0 rfl (by decide) ⟨rfl, rfl, rfl⟩ (hts _ q145) vW_g4 dX0_innOf_104 ?_
              refine lv_iload_n hx hb dX0_innOf_107 rfl (lv_at hl 1 rfl) ?_
              obtain ⟨h12, hf⟩ := o_cs hf
              refine b_iald hx hb hW 0 5 rfl vW_5 h12 dX0_innOf_108 ?_
              cases hf
              exact b_iret hx hb hr hlk hE (b_perms hW (b_ord [1, 0] 2 rfl rfl rfl)) () rfl trivial rfl dX0_innOf_109
            · have hf := o_f hf c11
              by_cases c13 : x2 = 5
              · have hf := o_t hf c13
                refine lv_tableIn (off := 91) (tgt := 110) hx hb dX0_innOf_19 (by rw [c13]; decide) (by rw [c13]; decide) (by rw [c13]; rfl) (by decide) ?_
                refine lv_aload_n hx hb dX0_innOf_110 rfl (lv_at hl 0 rfl) ?_
                refine b_get hx hb hts in_X0 hown hW 1 0 0 0 rfl xW_0 rfl (by decide) ⟨rfl, rfl, rfl⟩ (hts _ q227) xW_g0 dX0_innOf_111 ?_
                refine b_get hx hb hts in_X1 hown hW 0 0 1 5 rfl vW_0 rfl (by decide) ⟨rfl, rfl, rfl⟩ (hts _ q149) vW_g5 dX0_innOf_114 ?_
                refine lv_iload_n hx hb dX0_innOf_117 rfl (lv_at hl 1 rfl) ?_
                obtain ⟨h14, hf⟩ := o_cs hf
                refine b_iald hx hb hW 0 6 rfl vW_6 h14 dX0_innOf_118 ?_
                cases hf
                exact b_iret hx hb hr hlk hE (b_perms hW (b_ord [1, 0] 2 rfl rfl rfl)) () rfl trivial rfl dX0_innOf_119
              · have hf := o_f hf c13
                by_cases c15 : x2 = 6
                · have hf := o_t hf c15
                  refine lv_tableIn (off := 101) (tgt := 120) hx hb dX0_innOf_19 (by rw [c15]; decide) (by rw [c15]; decide) (by rw [c15]; rfl) (by decide) ?_
                  refine lv_aload_n hx hb dX0_innOf_120 rfl (lv_at hl 0 rfl) ?_
                  refine b_get hx hb hts in_X0 hown hW 1 0 0 0 rfl xW_0 rfl (by decide) ⟨rfl, rfl, rfl⟩ (hts _ q227) xW_g0 dX0_innOf_121 ?_
                  refine b_get hx hb hts in_X1 hown hW 0 0 1 6 rfl vW_0 rfl (by decide) ⟨rfl, rfl, rfl⟩ (hts _ q152) vW_g6 dX0_innOf_124 ?_
                  refine lv_iload_n hx hb dX0_innOf_127 rfl (lv_at hl 1 rfl) ?_
                  obtain ⟨h16, hf⟩ := o_cs hf
                  refine b_iald hx hb hW 0 7 rfl vW_7 h16 dX0_innOf_128 ?_
                  cases hf
                  exact b_iret hx hb hr hlk hE (b_perms hW (b_ord [1, 0] 2 rfl rfl rfl)) () rfl trivial rfl dX0_innOf_129
                · have hf := o_f hf c15
                  refine lv_tableOut (tgt := 130) hx hb dX0_innOf_19 (by have := lv_neT c3 (a := 0) (by decide); have := lv_neT c5 (a := 1) (by decide); have := lv_neT c7 (a := 2) (by decide); have := lv_neT c9 (a := 3) (by decide); have := lv_neT c11 (a := 4) (by decide); have := lv_neT c13 (a := 5) (by decide); have := lv_neT c15 (a := 6) (by decide); omega) (by decide) ?_
                  refine lv_aload_n hx hb dX0_innOf_130 rfl (lv_at hl 0 rfl) ?_
                  refine lv_bipush (v := (-2)) hx hb dX0_innOf_131 (by decide) ?_
                  obtain ⟨r17, X18, hc18, hf⟩ := o_b2s hf
                  have hp18 : List.Perm [vW g adN N, xW g adX (adN 0) (adT 0) iX X] ([xW g adX (adN 0) (adT 0) iX X] ++ [vW g adN N]) := b_perm [1] [0] 2 rfl rfl rfl rfl
                  refine b_call0 ⟨rfl, rfl⟩ (va_runV (As := [.int (-2)]) (rest := []) ⟨hx, hb, hml, hown, hts⟩ (m_X0_no l D g H.size adX iX adN adT X (-2) r17 X18 hc18) (cwV 1 hts (lw_V q347 q349 qs2 q76 q350) rfl rfl rfl (by decide +kernel) ⟨Nat.le_of_ble_eq_true rfl, Nat.le_of_ble_eq_true rfl⟩) (b_preV (pp := 1) (q := 0) hW hp18 rfl xW_0 rfl) rfl rfl hl.1 rfl (lv_room (Nat.le_of_ble_eq_true rfl)) dX0_innOf_133 ⟨Nat.le_of_ble_eq_true rfl, Nat.le_of_ble_eq_true rfl⟩) hW hp18 (fun _ _ H locs hW => ?_)
                  have hW : bW D g A s H locs [xW g adX (adN 0) (adT 0) iX X18, vW g adN N] := hW
                  cases hf
                  exact b_iret hx hb hr hlk hE hW () rfl trivial rfl dX0_innOf_136
  · have hf := o_t hf c2
    refine lv_aload_n hx hb dX0_innOf_11 rfl (lv_at hl 0 rfl) ?_
    refine lv_bipush (v := (-2)) hx hb dX0_innOf_12 (by decide) ?_
    obtain ⟨r19, X20, hc20, hf⟩ := o_b2s hf
    have hp20 : List.Perm [vW g adN N, xW g adX (adN 0) (adT 0) iX X] ([xW g adX (adN 0) (adT 0) iX X] ++ [vW g adN N]) := b_perm [1] [0] 2 rfl rfl rfl rfl
    refine b_call0 ⟨rfl, rfl⟩ (va_runV (As := [.int (-2)]) (rest := []) ⟨hx, hb, hml, hown, hts⟩ (m_X0_no l D g H.size adX iX adN adT X (-2) r19 X20 hc20) (cwV 1 hts (lw_V q347 q349 qs2 q76 q350) rfl rfl rfl (by decide +kernel) ⟨Nat.le_of_ble_eq_true rfl, Nat.le_of_ble_eq_true rfl⟩) (b_preV (pp := 1) (q := 0) hW hp20 rfl xW_0 rfl) rfl rfl hl.1 rfl (lv_room (Nat.le_of_ble_eq_true rfl)) dX0_innOf_14 ⟨Nat.le_of_ble_eq_true rfl, Nat.le_of_ble_eq_true rfl⟩) hW hp20 (fun _ _ H locs hW => ?_)
    have hW : bW D g A s H locs [xW g adX (adN 0) (adT 0) iX X20, vW g adN N] := hW
    cases hf
    exact b_iret hx hb hr hlk hE hW () rfl trivial rfl dX0_innOf_17
def f_X0_goerOf (X : BC) (N : BC) (L : List Nat) (kd : Nat → Nat) (nu : Nat → Int32) (aa : Nat → Int32) (x1 : Int32) (x2 : Int32) : Option (Int32 × BC) :=
 o_b1 (f_X0_isGoer X N x1) fun (r1 : Int32) =>
 (if r1 = 0 then
 o_b2 (f_X0_no X (-2)) fun (r3 : Int32) (X4 : BC) =>
 some (r3, X4)
 else
 o_b1 (f_X0_isIn x2 0 2) fun (r5 : Int32) =>
 (if r5 = 0 then
 o_b2 (f_X0_no X (-2)) fun (r17 : Int32) (X18 : BC) =>
 some (r17, X18)
 else
 (if x2 = 0 then
 o_ck (inB x1 6) (o_op (N.2.1 8 (ix x1)) none fun (a14 : Nat) => o_ck (gIn L kd a14) (o_b1 (fg_kind kd a14) fun (r16 : Int32) =>
 some (r16, X)))
 else
 (if x2 = 1 then
 o_ck (inB x1 6) (some (N.1 9 (ix x1), X))
 else
 o_ck (inB x1 6) (o_op (N.2.1 8 (ix x1)) none fun (a10 : Nat) => o_ck (gIn L kd a10) (some (aa a10, X)))))))
abbrev rm_X0_goerOf : Room := { frames := 2, cells := 0, slots := 0, locals := 43 }
set_option maxHeartbeats 4000000 in
set_option maxRecDepth 100000 in
theorem m_X0_goerOf (l : Launch) (D : va_G) (g : Nat → ClassId) (sz : Nat) (adX : Nat → Nat) (iX : Option Nat) (adN : Nat → Nat) (adT : Nat → Nat) (X : BC) (N : BC) (L : List Nat) (kd : Nat → Nat) (nu : Nat → Int32) (aa : Nat → Int32) (x1 : Int32) (x2 : Int32) (rO : Int32) (XO : BC) (hf : f_X0_goerOf X N L kd nu aa x1 x2 = some (rO, XO)) : bMet (S := Unit) l yX0_goerOf (ws_ yX0_goerOf cX0_goerOf 3 (some .int)) rm_X0_goerOf D g sz [.ref (adX 0), .int x1, .int x2] [xW g adX (adN 0) (adT 0) iX X, vW g adN N, gW L kd nu aa] (fun _ => True) (fun _ => some (.int rO)) (fun _ => [xW g adX (adN 0) (adT 0) iX XO, vW g adN N, gW L kd nu aa]) := by
  refine b_met (by decide) (Nat.le_of_ble_eq_true rfl) ?_
  intro p e s m args below meth c A Q ls hx hb hml hr hlk hown hname hts hE hl hW
  revert hW; generalize s.heap = H; intro hW
  have hl : lv_has ls 3 [(0, .ref (adX 0)), (1, .int x1), (2, .int x2)] := hl
  rw [f_X0_goerOf] at hf
  refine lv_aload_n hx hb dX0_goerOf_0 rfl (lv_at hl 0 rfl) ?_
  refine lv_iload_n hx hb dX0_goerOf_1 rfl (lv_at hl 1 rfl) ?_
  obtain ⟨r1, hc1, hf⟩ := o_b1s hf
  have hp1 : List.Perm [xW g adX (adN 0) (adT 0) iX X, vW g adN N, gW L kd nu aa] ([xW g adX (adN 0) (adT 0) iX X, vW g adN N] ++ [gW L kd nu aa]) := b_perm [0, 1] [2] 3 rfl rfl rfl rfl
  refine b_call0 ⟨rfl, rfl⟩ (va_runV (As := [.int x1]) (rest := []) ⟨hx, hb, hml, hown, hts⟩ (m_X0_isGoer l D g H.size adX iX adN adT X N x1 r1 hc1) (cwV 1 hts (lw_V q485 q487 qs4 q76 q488) rfl rfl rfl (by decide +kernel) ⟨Nat.le_of_ble_eq_true rfl, Nat.le_of_ble_eq_true rfl⟩) (b_preV (pp := 0) (q := 0) hW hp1 rfl xW_0 rfl) rfl rfl hl.1 rfl (lv_room (Nat.le_of_ble_eq_true rfl)) dX0_goerOf_2 ⟨Nat.le_of_ble_eq_true rfl, Nat.le_of_ble_eq_true rfl⟩) hW hp1 (fun _ _ H locs hW => ?_)
  have hW : bW D g A s H locs [xW g adX (adN 0) (adT 0) iX X, vW g adN N, gW L kd nu aa] := hW
  refine lv_if_eq (tgt := 17) hx hb dX0_goerOf_5 (by decide) (fun c2 => ?_) (fun c2 => ?_)
  · have hf := o_t hf c2
    refine lv_aload_n hx hb dX0_goerOf_17 rfl (lv_at hl 0 rfl) ?_
    refine lv_bipush (v := (-2)) hx hb dX0_goerOf_18 (by decide) ?_
    obtain ⟨r3, X4, hc4, hf⟩ := o_b2s hf
    have hp4 : List.Perm [xW g adX (adN 0) (adT 0) iX X, vW g adN N, gW L kd nu aa] ([xW g adX (adN 0) (adT 0) iX X] ++ [vW g adN N, gW L kd nu aa]) := b_perm [0] [1, 2] 3 rfl rfl rfl rfl
    refine b_call0 ⟨rfl, rfl⟩ (va_runV (As := [.int (-2)]) (rest := []) ⟨hx, hb, hml, hown, hts⟩ (m_X0_no l D g H.size adX iX adN adT X (-2) r3 X4 hc4) (cwV 1 hts (lw_V q347 q349 qs2 q76 q350) rfl rfl rfl (by decide +kernel) ⟨Nat.le_of_ble_eq_true rfl, Nat.le_of_ble_eq_true rfl⟩) (b_preV (pp := 0) (q := 0) hW hp4 rfl xW_0 rfl) rfl rfl hl.1 rfl (lv_room (Nat.le_of_ble_eq_true rfl)) dX0_goerOf_20 ⟨Nat.le_of_ble_eq_true rfl, Nat.le_of_ble_eq_true rfl⟩) hW hp4 (fun _ _ H locs hW => ?_)
    have hW : bW D g A s H locs [xW g adX (adN 0) (adT 0) iX X4, vW g adN N, gW L kd nu aa] := hW
    cases hf
    exact b_iret hx hb hr hlk hE hW () rfl trivial rfl dX0_goerOf_23
  · have hf := o_f hf c2
    refine lv_iload_n hx hb dX0_goerOf_8 rfl (lv_at hl 2 rfl) ?_
    refine lv_iconst (v := 0) hx hb dX0_goerOf_9 (by decide) ?_
    refine lv_iconst (v := 2) hx hb dX0_goerOf_10 (by decide) ?_
    obtain ⟨r5, hc5, hf⟩ := o_b1s hf
    have hp5 : List.Perm [xW g adX (adN 0) (adT 0) iX X, vW g adN N, gW L kd nu aa] ([] ++ [xW g adX (adN 0) (adT 0) iX X, vW g adN N, gW L kd nu aa]) := b_perm [] [0, 1, 2] 3 rfl rfl rfl rfl
    refine b_call0 ⟨rfl, rfl⟩ (va_runS (As := [.int x2, .int 0, .int 2]) (rest := []) ⟨hx, hb, hml, hown, hts⟩ (m_X0_isIn l D g H.size x2 0 2 r5 hc5) (va_cwS 3 hts (lw_S q344 q345 q76 q346) rfl rfl rfl (by decide +kernel) ⟨Nat.le_of_ble_eq_true rfl, Nat.le_of_ble_eq_true rfl⟩) (b_preS hW hp5) rfl rfl hl.1 rfl (lv_room (Nat.le_of_ble_eq_true rfl)) dX0_goerOf_11 ⟨Nat.le_of_ble_eq_true rfl, Nat.le_of_ble_eq_true rfl⟩) hW hp5 (fun _ _ H locs hW => ?_)
    have hW : bW D g A s H locs [xW g adX (adN 0) (adT 0) iX X, vW g adN N, gW L kd nu aa] := hW
    refine lv_if_ne (tgt := 24) hx hb dX0_goerOf_14 (by decide) (fun c6 => ?_) (fun c6 => ?_)
    · have hf := o_f hf c6
      refine lv_iload_n hx hb dX0_goerOf_24 rfl (lv_at hl 2 rfl) ?_
      refine lv_if_ne (tgt := 43) hx hb dX0_goerOf_25 (by decide) (fun c7 => ?_) (fun c7 => ?_)
      · have hf := o_f hf c7
        refine lv_iload_n hx hb dX0_goerOf_43 rfl (lv_at hl 2 rfl) ?_
        refine lv_iconst (v := 1) hx hb dX0_goerOf_44 (by decide) ?_
        refine lv_icmp_ne (tgt := 60) hx hb dX0_goerOf_45 (by decide) (fun c8 => ?_) (fun c8 => ?_)
        · have hf := o_f hf c8
          refine lv_aload_n hx hb dX0_goerOf_60 rfl (lv_at hl 0 rfl) ?_
          refine b_get hx hb hts in_X0 hown hW 0 0 0 0 rfl xW_0 rfl (by decide) ⟨rfl, rfl, rfl⟩ (hts _ q227) xW_g0 dX0_goerOf_61 ?_
          refine b_get hx hb hts in_X1 hown hW 1 0 1 7 rfl vW_0 rfl (by decide) ⟨rfl, rfl, rfl⟩ (hts _ q154) vW_g7 dX0_goerOf_64 ?_
          refine lv_iload_n hx hb dX0_goerOf_67 rfl (lv_at hl 1 rfl) ?_
          obtain ⟨h9, hf⟩ := o_cs hf
          refine b_aald hx hb hW 1 8 5 rfl vW_8 rfl h9 dX0_goerOf_68 ?_
          refine b_split (fun hrf => by cases (o_opn hf hrf)) (fun a10 hrf => ?_)
          have hf := o_ops hf hrf
          obtain ⟨h11, hf⟩ := o_cs hf
          refine b_getA hx hb hts hown hW 2 rfl h11 (hts _ q622) (fun _ h => h) dX0_goerOf_69 ?_
          cases hf
          exact b_iret hx hb hr hlk hE hW () rfl trivial rfl dX0_goerOf_72
        · have hf := o_t hf c8
          refine lv_aload_n hx hb dX0_goerOf_48 rfl (lv_at hl 0 rfl) ?_
          refine b_get hx hb hts in_X0 hown hW 0 0 0 0 rfl xW_0 rfl (by decide) ⟨rfl, rfl, rfl⟩ (hts _ q227) xW_g0 dX0_goerOf_49 ?_
          refine b_get hx hb hts in_X1 hown hW 1 0 1 8 rfl vW_0 rfl (by decide) ⟨rfl, rfl, rfl⟩ (hts _ q156) vW_g8 dX0_goerOf_52 ?_
          refine lv_iload_n hx hb dX0_goerOf_55 rfl (lv_at hl 1 rfl) ?_
          obtain ⟨h12, hf⟩ := o_cs hf
          refine b_iald hx hb hW 1 9 rfl vW_9 h12 dX0_goerOf_56 ?_
          refine lv_goto (tgt := 72) hx hb dX0_goerOf_57 (by decide) ?_
          cases hf
          exact b_iret hx hb hr hlk hE hW () rfl trivial rfl dX0_goerOf_72
      · have hf := o_t hf c7
        refine lv_aload_n hx hb dX0_goerOf_28 rfl (lv_at hl 0 rfl) ?_
        refine b_get hx hb hts in_X0 hown hW 0 0 0 0 rfl xW_0 rfl (by decide) ⟨rfl, rfl, rfl⟩ (hts _ q227) xW_g0 dX0_goerOf_29 ?_
        refine b_get hx hb hts in_X1 hown hW 1 0 1 7 rfl vW_0 rfl (by decide) ⟨rfl, rfl, rfl⟩ (hts _ q154) vW_g7 dX0_goerOf_32 ?_
        refine lv_iload_n hx hb dX0_goerOf_35 rfl (lv_at hl 1 rfl) ?_
        obtain ⟨h13, hf⟩ := o_cs hf
        refine b_aald hx hb hW 1 8 5 rfl vW_8 rfl h13 dX0_goerOf_36 ?_
        refine b_split (fun hrf => by cases (o_opn hf hrf)) (fun a14 hrf => ?_)
        have hf := o_ops hf hrf
        obtain ⟨h15, hf⟩ := o_cs hf
        obtain ⟨r16, hc16, hf⟩ := o_b1s hf
        have hp16 : List.Perm [xW g adX (adN 0) (adT 0) iX X, vW g adN N, gW L kd nu aa] ([] ++ [xW g adX (adN 0) (adT 0) iX X, vW g adN N, gW L kd nu aa]) := b_perm [] [0, 1, 2] 3 rfl rfl rfl rfl
        refine b_gv_kind ⟨hx, hb, hml, hown, hts⟩ q1101 hW hp16 2 rfl h15 hc16 ⟨Nat.le_of_ble_eq_true rfl, Nat.le_of_ble_eq_true rfl⟩ hl.1 (Nat.le_of_ble_eq_true rfl) ⟨Nat.le_of_ble_eq_true rfl, Nat.le_of_ble_eq_true rfl⟩ dX0_goerOf_37 (fun H locs hW => ?_)
        have hW : bW D g A s H locs [xW g adX (adN 0) (adT 0) iX X, vW g adN N, gW L kd nu aa] := hW
        refine lv_goto (tgt := 72) hx hb dX0_goerOf_40 (by decide) ?_
        cases hf
        exact b_iret hx hb hr hlk hE hW () rfl trivial rfl dX0_goerOf_72
    · have hf := o_t hf c6
      refine lv_aload_n hx hb dX0_goerOf_17 rfl (lv_at hl 0 rfl) ?_
      refine lv_bipush (v := (-2)) hx hb dX0_goerOf_18 (by decide) ?_
      obtain ⟨r17, X18, hc18, hf⟩ := o_b2s hf
      have hp18 : List.Perm [xW g adX (adN 0) (adT 0) iX X, vW g adN N, gW L kd nu aa] ([xW g adX (adN 0) (adT 0) iX X] ++ [vW g adN N, gW L kd nu aa]) := b_perm [0] [1, 2] 3 rfl rfl rfl rfl
      refine b_call0 ⟨rfl, rfl⟩ (va_runV (As := [.int (-2)]) (rest := []) ⟨hx, hb, hml, hown, hts⟩ (m_X0_no l D g H.size adX iX adN adT X (-2) r17 X18 hc18) (cwV 1 hts (lw_V q347 q349 qs2 q76 q350) rfl rfl rfl (by decide +kernel) ⟨Nat.le_of_ble_eq_true rfl, Nat.le_of_ble_eq_true rfl⟩) (b_preV (pp := 0) (q := 0) hW hp18 rfl xW_0 rfl) rfl rfl hl.1 rfl (lv_room (Nat.le_of_ble_eq_true rfl)) dX0_goerOf_20 ⟨Nat.le_of_ble_eq_true rfl, Nat.le_of_ble_eq_true rfl⟩) hW hp18 (fun _ _ H locs hW => ?_)
      have hW : bW D g A s H locs [xW g adX (adN 0) (adT 0) iX X18, vW g adN N, gW L kd nu aa] := hW
      cases hf
      exact b_iret hx hb hr hlk hE hW () rfl trivial rfl dX0_goerOf_23
def f_X0_noLow (X : BC) (x1 : Int32) : Option (Int32 × BC) :=
 o_b2 (f_X0_no X x1) fun (r1 : Int32) (X2 : BC) =>
 some ((-1000000) + r1, X2)
abbrev rm_X0_noLow : Room := { frames := 1, cells := 0, slots := 0, locals := 21 }
set_option maxHeartbeats 4000000 in
set_option maxRecDepth 100000 in
theorem m_X0_noLow (l : Launch) (D : va_G) (g : Nat → ClassId) (sz : Nat) (adX : Nat → Nat) (iX : Option Nat) (adN : Nat → Nat) (adT : Nat → Nat) (X : BC) (x1 : Int32) (rO : Int32) (XO : BC) (hf : f_X0_noLow X x1 = some (rO, XO)) : bMet (S := Unit) l yX0_noLow (ws_ yX0_noLow cX0_noLow 2 (some .int)) rm_X0_noLow D g sz [.ref (adX 0), .int x1] [xW g adX (adN 0) (adT 0) iX X] (fun _ => True) (fun _ => some (.int rO)) (fun _ => [xW g adX (adN 0) (adT 0) iX XO]) := by
  refine b_met (by decide) (Nat.le_of_ble_eq_true rfl) ?_
  intro p e s m args below meth c A Q ls hx hb hml hr hlk hown hname hts hE hl hW
  revert hW; generalize s.heap = H; intro hW
  have hl : lv_has ls 2 [(0, .ref (adX 0)), (1, .int x1)] := hl
  rw [f_X0_noLow] at hf
  refine lv_ldc (v := (-1000000)) hx hb hown (hts _ q1130) dX0_noLow_0 ?_
  refine lv_aload_n hx hb dX0_noLow_2 rfl (lv_at hl 0 rfl) ?_
  refine lv_iload_n hx hb dX0_noLow_3 rfl (lv_at hl 1 rfl) ?_
  obtain ⟨r1, X2, hc2, hf⟩ := o_b2s hf
  have hp2 : List.Perm [xW g adX (adN 0) (adT 0) iX X] ([xW g adX (adN 0) (adT 0) iX X] ++ []) := b_perm [0] [] 1 rfl rfl rfl rfl
  refine b_call0 ⟨rfl, rfl⟩ (va_runV (As := [.int x1]) (rest := [.int (-1000000)]) ⟨hx, hb, hml, hown, hts⟩ (m_X0_no l D g H.size adX iX adN adT X x1 r1 X2 hc2) (cwV 1 hts (lw_V q347 q349 qs2 q76 q350) rfl rfl rfl (by decide +kernel) ⟨Nat.le_of_ble_eq_true rfl, Nat.le_of_ble_eq_true rfl⟩) (b_preV (pp := 0) (q := 0) hW hp2 rfl xW_0 rfl) rfl rfl hl.1 rfl (lv_room (Nat.le_of_ble_eq_true rfl)) dX0_noLow_4 ⟨Nat.le_of_ble_eq_true rfl, Nat.le_of_ble_eq_true rfl⟩) hW hp2 (fun _ _ H locs hW => ?_)
  have hW : bW D g A s H locs [xW g adX (adN 0) (adT 0) iX X2] := hW
  refine lv_iadd hx hb dX0_noLow_7 ?_
  cases hf
  exact b_iret hx hb hr hlk hE hW () rfl trivial rfl dX0_noLow_8
def f_X0_score (X : BC) (N : BC) (L : List Nat) (kd : Nat → Nat) (nu : Nat → Int32) (aa : Nat → Int32) (x1 : Int32) (x2 : Int32) : Option (Int32 × BC) :=
 o_b1 (f_X0_isGoer X N x1) fun (r1 : Int32) =>
 (if r1 = 0 then
 o_b2 (f_X0_noLow X (-2)) fun (r3 : Int32) (X4 : BC) =>
 some (r3, X4)
 else
 o_b1 (f_X1_isInn N x2) fun (r5 : Int32) =>
 (if r5 = 0 then
 o_b2 (f_X0_noLow X (-2)) fun (r7 : Int32) (X8 : BC) =>
 some (r7, X8)
 else
 o_ck (inB x1 6) (o_op (N.2.1 8 (ix x1)) none fun (a10 : Nat) => o_ck (gIn L kd a10) (o_b1 (fg_score N L kd nu aa a10 x2) fun (r12 : Int32) =>
 some (r12, X)))))
abbrev rm_X0_score : Room := { frames := 4, cells := 0, slots := 0, locals := 91 }
set_option maxHeartbeats 4000000 in
set_option maxRecDepth 100000 in
theorem m_X0_score (l : Launch) (D : va_G) (g : Nat → ClassId) (sz : Nat) (adX : Nat → Nat) (iX : Option Nat) (adN : Nat → Nat) (adT : Nat → Nat) (X : BC) (N : BC) (L : List Nat) (kd : Nat → Nat) (nu : Nat → Int32) (aa : Nat → Int32) (x1 : Int32) (x2 : Int32) (rO : Int32) (XO : BC) (hf : f_X0_score X N L kd nu aa x1 x2 = some (rO, XO)) : bMet (S := Unit) l yX0_score (ws_ yX0_score cX0_score 3 (some .int)) rm_X0_score D g sz [.ref (adX 0), .int x1, .int x2] [xW g adX (adN 0) (adT 0) iX X, vW g adN N, gW L kd nu aa] (fun _ => True) (fun _ => some (.int rO)) (fun _ => [xW g adX (adN 0) (adT 0) iX XO, vW g adN N, gW L kd nu aa]) := by
  refine b_met (by decide) (Nat.le_of_ble_eq_true rfl) ?_
  intro p e s m args below meth c A Q ls hx hb hml hr hlk hown hname hts hE hl hW
  revert hW; generalize s.heap = H; intro hW
  have hl : lv_has ls 3 [(0, .ref (adX 0)), (1, .int x1), (2, .int x2)] := hl
  rw [f_X0_score] at hf
  refine lv_aload_n hx hb dX0_score_0 rfl (lv_at hl 0 rfl) ?_
  refine lv_iload_n hx hb dX0_score_1 rfl (lv_at hl 1 rfl) ?_
  obtain ⟨r1, hc1, hf⟩ := o_b1s hf
  have hp1 : List.Perm [xW g adX (adN 0) (adT 0) iX X, vW g adN N, gW L kd nu aa] ([xW g adX (adN 0) (adT 0) iX X, vW g adN N] ++ [gW L kd nu aa]) := b_perm [0, 1] [2] 3 rfl rfl rfl rfl
  refine b_call0 ⟨rfl, rfl⟩ (va_runV (As := [.int x1]) (rest := []) ⟨hx, hb, hml, hown, hts⟩ (m_X0_isGoer l D g H.size adX iX adN adT X N x1 r1 hc1) (cwV 1 hts (lw_V q485 q487 qs4 q76 q488) rfl rfl rfl (by decide +kernel) ⟨Nat.le_of_ble_eq_true rfl, Nat.le_of_ble_eq_true rfl⟩) (b_preV (pp := 0) (q := 0) hW hp1 rfl xW_0 rfl) rfl rfl hl.1 rfl (lv_room (Nat.le_of_ble_eq_true rfl)) dX0_score_2 ⟨Nat.le_of_ble_eq_true rfl, Nat.le_of_ble_eq_true rfl⟩) hW hp1 (fun _ _ H locs hW => ?_)
  have hW : bW D g A s H locs [xW g adX (adN 0) (adT 0) iX X, vW g adN N, gW L kd nu aa] := hW
  refine lv_if_eq (tgt := 39) hx hb dX0_score_5 (by decide) (fun c2 => ?_) (fun c2 => ?_)
  · have hf := o_t hf c2
    refine lv_aload_n hx hb dX0_score_39 rfl (lv_at hl 0 rfl) ?_
    refine lv_bipush (v := (-2)) hx hb dX0_score_40 (by decide) ?_
    obtain ⟨r3, X4, hc4, hf⟩ := o_b2s hf
    have hp4 : List.Perm [xW g adX (adN 0) (adT 0) iX X, vW g adN N, gW L kd nu aa] ([xW g adX (adN 0) (adT 0) iX X] ++ [vW g adN N, gW L kd nu aa]) := b_perm [0] [1, 2] 3 rfl rfl rfl rfl
    refine b_call0 ⟨rfl, rfl⟩ (va_runV (As := [.int (-2)]) (rest := []) ⟨hx, hb, hml, hown, hts⟩ (m_X0_noLow l D g H.size adX iX adN adT X (-2) r3 X4 hc4) (cwV 1 hts (lw_V q1126 q1128 qs18 q76 q1129) rfl rfl rfl (by decide +kernel) ⟨Nat.le_of_ble_eq_true rfl, Nat.le_of_ble_eq_true rfl⟩) (b_preV (pp := 0) (q := 0) hW hp4 rfl xW_0 rfl) rfl rfl hl.1 rfl (lv_room (Nat.le_of_ble_eq_true rfl)) dX0_score_42 ⟨Nat.le_of_ble_eq_true rfl, Nat.le_of_ble_eq_true rfl⟩) hW hp4 (fun _ _ H locs hW => ?_)
    have hW : bW D g A s H locs [xW g adX (adN 0) (adT 0) iX X4, vW g adN N, gW L kd nu aa] := hW
    cases hf
    exact b_iret hx hb hr hlk hE hW () rfl trivial rfl dX0_score_45
  · have hf := o_f hf c2
    refine lv_aload_n hx hb dX0_score_8 rfl (lv_at hl 0 rfl) ?_
    refine b_get hx hb hts in_X0 hown hW 0 0 0 0 rfl xW_0 rfl (by decide) ⟨rfl, rfl, rfl⟩ (hts _ q227) xW_g0 dX0_score_9 ?_
    refine lv_iload_n hx hb dX0_score_12 rfl (lv_at hl 2 rfl) ?_
    obtain ⟨r5, hc5, hf⟩ := o_b1s hf
    have hp5 : List.Perm [xW g adX (adN 0) (adT 0) iX X, vW g adN N, gW L kd nu aa] ([vW g adN N] ++ [xW g adX (adN 0) (adT 0) iX X, gW L kd nu aa]) := b_perm [1] [0, 2] 3 rfl rfl rfl rfl
    refine b_call0 ⟨rfl, rfl⟩ (va_runV (As := [.int x2]) (rest := []) ⟨hx, hb, hml, hown, hts⟩ (m_X1_isInn l D g H.size adN N x2 r5 hc5) (cwV 1 hts (lw_V q672 q673 q674 q77 q675) rfl rfl rfl (by decide +kernel) ⟨Nat.le_of_ble_eq_true rfl, Nat.le_of_ble_eq_true rfl⟩) (b_preV (pp := 1) (q := 0) hW hp5 rfl vW_0 rfl) rfl rfl hl.1 rfl (lv_room (Nat.le_of_ble_eq_true rfl)) dX0_score_13 ⟨Nat.le_of_ble_eq_true rfl, Nat.le_of_ble_eq_true rfl⟩) hW hp5 (fun _ _ H locs hW => ?_)
    have hW : bW D g A s H locs [vW g adN N, xW g adX (adN 0) (adT 0) iX X, gW L kd nu aa] := hW
    refine lv_if_eq (tgt := 39) hx hb dX0_score_16 (by decide) (fun c6 => ?_) (fun c6 => ?_)
    · have hf := o_t hf c6
      refine lv_aload_n hx hb dX0_score_39 rfl (lv_at hl 0 rfl) ?_
      refine lv_bipush (v := (-2)) hx hb dX0_score_40 (by decide) ?_
      obtain ⟨r7, X8, hc8, hf⟩ := o_b2s hf
      have hp8 : List.Perm [vW g adN N, xW g adX (adN 0) (adT 0) iX X, gW L kd nu aa] ([xW g adX (adN 0) (adT 0) iX X] ++ [vW g adN N, gW L kd nu aa]) := b_perm [1] [0, 2] 3 rfl rfl rfl rfl
      refine b_call0 ⟨rfl, rfl⟩ (va_runV (As := [.int (-2)]) (rest := []) ⟨hx, hb, hml, hown, hts⟩ (m_X0_noLow l D g H.size adX iX adN adT X (-2) r7 X8 hc8) (cwV 1 hts (lw_V q1126 q1128 qs18 q76 q1129) rfl rfl rfl (by decide +kernel) ⟨Nat.le_of_ble_eq_true rfl, Nat.le_of_ble_eq_true rfl⟩) (b_preV (pp := 1) (q := 0) hW hp8 rfl xW_0 rfl) rfl rfl hl.1 rfl (lv_room (Nat.le_of_ble_eq_true rfl)) dX0_score_42 ⟨Nat.le_of_ble_eq_true rfl, Nat.le_of_ble_eq_true rfl⟩) hW hp8 (fun _ _ H locs hW => ?_)
      have hW : bW D g A s H locs [xW g adX (adN 0) (adT 0) iX X8, vW g adN N, gW L kd nu aa] := hW
      cases hf
      exact b_iret hx hb hr hlk hE hW () rfl trivial rfl dX0_score_45
    · have hf := o_f hf c6
      refine lv_aload_n hx hb dX0_score_19 rfl (lv_at hl 0 rfl) ?_
      refine b_get hx hb hts in_X0 hown hW 1 0 0 0 rfl xW_0 rfl (by decide) ⟨rfl, rfl, rfl⟩ (hts _ q227) xW_g0 dX0_score_20 ?_
      refine b_get hx hb hts in_X1 hown hW 0 0 1 7 rfl vW_0 rfl (by decide) ⟨rfl, rfl, rfl⟩ (hts _ q154) vW_g7 dX0_score_23 ?_
      refine lv_iload_n hx hb dX0_score_26 rfl (lv_at hl 1 rfl) ?_
      obtain ⟨h9, hf⟩ := o_cs hf
      refine b_aald hx hb hW 0 8 5 rfl vW_8 rfl h9 dX0_score_27 ?_
      refine b_split (fun hrf => by cases (o_opn hf hrf)) (fun a10 hrf => ?_)
      have hf := o_ops hf hrf
      obtain ⟨h11, hf⟩ := o_cs hf
      refine lv_aload_n hx hb dX0_score_28 rfl (lv_at hl 0 rfl) ?_
      refine b_get hx hb hts in_X0 hown hW 1 0 0 0 rfl xW_0 rfl (by decide) ⟨rfl, rfl, rfl⟩ (hts _ q227) xW_g0 dX0_score_29 ?_
      refine lv_iload_n hx hb dX0_score_32 rfl (lv_at hl 2 rfl) ?_
      obtain ⟨r12, hc12, hf⟩ := o_b1s hf
      have hp12 : List.Perm [vW g adN N, xW g adX (adN 0) (adT 0) iX X, gW L kd nu aa] ([vW g adN N, gW L kd nu aa] ++ [xW g adX (adN 0) (adT 0) iX X]) := b_perm [0, 2] [1] 3 rfl rfl rfl rfl
      refine b_gv_score ⟨hx, hb, hml, hown, hts⟩ q1125 hW hp12 2 rfl h11 hc12 ⟨Nat.le_of_ble_eq_true rfl, Nat.le_of_ble_eq_true rfl⟩ hl.1 (Nat.le_of_ble_eq_true rfl) ⟨Nat.le_of_ble_eq_true rfl, Nat.le_of_ble_eq_true rfl⟩ dX0_score_33 (fun H locs hW => ?_)
      have hW : bW D g A s H locs [vW g adN N, gW L kd nu aa, xW g adX (adN 0) (adT 0) iX X] := hW
      refine lv_goto (tgt := 45) hx hb dX0_score_36 (by decide) ?_
      cases hf
      exact b_iret hx hb hr hlk hE (b_perms hW (b_ord [2, 0, 1] 3 rfl rfl rfl)) () rfl trivial rfl dX0_score_45
def f_X0_sleeps (fu : Nat) (X : BC) (N : BC) (L : List Nat) (kd : Nat → Nat) (nu : Nat → Int32) (aa : Nat → Int32) (x1 : Int32) (x2 : Int32) : Option (Int32 × BC × BC) :=
 o_b1 (f_X0_isGoer X N x1) fun (r1 : Int32) =>
 (if r1 = 0 then
 o_b2 (f_X0_no X (-2)) fun (r3 : Int32) (X4 : BC) =>
 some (r3, X4, N)
 else
 o_b1 (f_X1_isInn N x2) fun (r5 : Int32) =>
 (if r5 = 0 then
 o_b2 (f_X0_no X (-2)) fun (r7 : Int32) (X8 : BC) =>
 some (r7, X8, N)
 else
 o_b1 (f_X1_night fu N L kd nu aa) fun (N9 : BC) =>
 o_ck (inB x1 6) (o_ck (inB x2 6) (some (N9.1 (11 + ix x1) (ix x2), X, N9)))))
abbrev rm_X0_sleeps : Room := { frames := 7, cells := 0, slots := 0, locals := 164 }
set_option maxHeartbeats 4000000 in
set_option maxRecDepth 100000 in
theorem m_X0_sleeps (l : Launch) (D : va_G) (g : Nat → ClassId) (sz : Nat) (adX : Nat → Nat) (iX : Option Nat) (adN : Nat → Nat) (adT : Nat → Nat) (fu : Nat) (X : BC) (N : BC) (L : List Nat) (kd : Nat → Nat) (nu : Nat → Int32) (aa : Nat → Int32) (x1 : Int32) (x2 : Int32) (rO : Int32) (XO : BC) (NO : BC) (hf : f_X0_sleeps fu X N L kd nu aa x1 x2 = some (rO, XO, NO)) : bMet (S := Unit) l yX0_sleeps (ws_ yX0_sleeps cX0_sleeps 3 (some .int)) rm_X0_sleeps D g sz [.ref (adX 0), .int x1, .int x2] [xW g adX (adN 0) (adT 0) iX X, vW g adN N, gW L kd nu aa] (fun _ => True) (fun _ => some (.int rO)) (fun _ => [xW g adX (adN 0) (adT 0) iX XO, vW g adN NO, gW L kd nu aa]) := by
  refine b_met (by decide) (Nat.le_of_ble_eq_true rfl) ?_
  intro p e s m args below meth c A Q ls hx hb hml hr hlk hown hname hts hE hl hW
  revert hW; generalize s.heap = H; intro hW
  have hl : lv_has ls 3 [(0, .ref (adX 0)), (1, .int x1), (2, .int x2)] := hl
  rw [f_X0_sleeps] at hf
  refine lv_aload_n hx hb dX0_sleeps_0 rfl (lv_at hl 0 rfl) ?_
  refine lv_iload_n hx hb dX0_sleeps_1 rfl (lv_at hl 1 rfl) ?_
  obtain ⟨r1, hc1, hf⟩ := o_b1s hf
  have hp1 : List.Perm [xW g adX (adN 0) (adT 0) iX X, vW g adN N, gW L kd nu aa] ([xW g adX (adN 0) (adT 0) iX X, vW g adN N] ++ [gW L kd nu aa]) := b_perm [0, 1] [2] 3 rfl rfl rfl rfl
  refine b_call0 ⟨rfl, rfl⟩ (va_runV (As := [.int x1]) (rest := []) ⟨hx, hb, hml, hown, hts⟩ (m_X0_isGoer l D g H.size adX iX adN adT X N x1 r1 hc1) (cwV 1 hts (lw_V q485 q487 qs4 q76 q488) rfl rfl rfl (by decide +kernel) ⟨Nat.le_of_ble_eq_true rfl, Nat.le_of_ble_eq_true rfl⟩) (b_preV (pp := 0) (q := 0) hW hp1 rfl xW_0 rfl) rfl rfl hl.1 rfl (lv_room (Nat.le_of_ble_eq_true rfl)) dX0_sleeps_2 ⟨Nat.le_of_ble_eq_true rfl, Nat.le_of_ble_eq_true rfl⟩) hW hp1 (fun _ _ H locs hW => ?_)
  have hW : bW D g A s H locs [xW g adX (adN 0) (adT 0) iX X, vW g adN N, gW L kd nu aa] := hW
  refine lv_if_eq (tgt := 36) hx hb dX0_sleeps_5 (by decide) (fun c2 => ?_) (fun c2 => ?_)
  · have hf := o_t hf c2
    refine lv_aload_n hx hb dX0_sleeps_36 rfl (lv_at hl 0 rfl) ?_
    refine lv_bipush (v := (-2)) hx hb dX0_sleeps_37 (by decide) ?_
    obtain ⟨r3, X4, hc4, hf⟩ := o_b2s hf
    have hp4 : List.Perm [xW g adX (adN 0) (adT 0) iX X, vW g adN N, gW L kd nu aa] ([xW g adX (adN 0) (adT 0) iX X] ++ [vW g adN N, gW L kd nu aa]) := b_perm [0] [1, 2] 3 rfl rfl rfl rfl
    refine b_call0 ⟨rfl, rfl⟩ (va_runV (As := [.int (-2)]) (rest := []) ⟨hx, hb, hml, hown, hts⟩ (m_X0_no l D g H.size adX iX adN adT X (-2) r3 X4 hc4) (cwV 1 hts (lw_V q347 q349 qs2 q76 q350) rfl rfl rfl (by decide +kernel) ⟨Nat.le_of_ble_eq_true rfl, Nat.le_of_ble_eq_true rfl⟩) (b_preV (pp := 0) (q := 0) hW hp4 rfl xW_0 rfl) rfl rfl hl.1 rfl (lv_room (Nat.le_of_ble_eq_true rfl)) dX0_sleeps_39 ⟨Nat.le_of_ble_eq_true rfl, Nat.le_of_ble_eq_true rfl⟩) hW hp4 (fun _ _ H locs hW => ?_)
    have hW : bW D g A s H locs [xW g adX (adN 0) (adT 0) iX X4, vW g adN N, gW L kd nu aa] := hW
    cases hf
    exact b_iret hx hb hr hlk hE hW () rfl trivial rfl dX0_sleeps_42
  · have hf := o_f hf c2
    refine lv_aload_n hx hb dX0_sleeps_8 rfl (lv_at hl 0 rfl) ?_
    refine b_get hx hb hts in_X0 hown hW 0 0 0 0 rfl xW_0 rfl (by decide) ⟨rfl, rfl, rfl⟩ (hts _ q227) xW_g0 dX0_sleeps_9 ?_
    refine lv_iload_n hx hb dX0_sleeps_12 rfl (lv_at hl 2 rfl) ?_
    obtain ⟨r5, hc5, hf⟩ := o_b1s hf
    have hp5 : List.Perm [xW g adX (adN 0) (adT 0) iX X, vW g adN N, gW L kd nu aa] ([vW g adN N] ++ [xW g adX (adN 0) (adT 0) iX X, gW L kd nu aa]) := b_perm [1] [0, 2] 3 rfl rfl rfl rfl
    refine b_call0 ⟨rfl, rfl⟩ (va_runV (As := [.int x2]) (rest := []) ⟨hx, hb, hml, hown, hts⟩ (m_X1_isInn l D g H.size adN N x2 r5 hc5) (cwV 1 hts (lw_V q672 q673 q674 q77 q675) rfl rfl rfl (by decide +kernel) ⟨Nat.le_of_ble_eq_true rfl, Nat.le_of_ble_eq_true rfl⟩) (b_preV (pp := 1) (q := 0) hW hp5 rfl vW_0 rfl) rfl rfl hl.1 rfl (lv_room (Nat.le_of_ble_eq_true rfl)) dX0_sleeps_13 ⟨Nat.le_of_ble_eq_true rfl, Nat.le_of_ble_eq_true rfl⟩) hW hp5 (fun _ _ H locs hW => ?_)
    have hW : bW D g A s H locs [vW g adN N, xW g adX (adN 0) (adT 0) iX X, gW L kd nu aa] := hW
    refine lv_if_eq (tgt := 36) hx hb dX0_sleeps_16 (by decide) (fun c6 => ?_) (fun c6 => ?_)
    · have hf := o_t hf c6
      refine lv_aload_n hx hb dX0_sleeps_36 rfl (lv_at hl 0 rfl) ?_
      refine lv_bipush (v := (-2)) hx hb dX0_sleeps_37 (by decide) ?_
      obtain ⟨r7, X8, hc8, hf⟩ := o_b2s hf
      have hp8 : List.Perm [vW g adN N, xW g adX (adN 0) (adT 0) iX X, gW L kd nu aa] ([xW g adX (adN 0) (adT 0) iX X] ++ [vW g adN N, gW L kd nu aa]) := b_perm [1] [0, 2] 3 rfl rfl rfl rfl
      refine b_call0 ⟨rfl, rfl⟩ (va_runV (As := [.int (-2)]) (rest := []) ⟨hx, hb, hml, hown, hts⟩ (m_X0_no l D g H.size adX iX adN adT X (-2) r7 X8 hc8) (cwV 1 hts (lw_V q347 q349 qs2 q76 q350) rfl rfl rfl (by decide +kernel) ⟨Nat.le_of_ble_eq_true rfl, Nat.le_of_ble_eq_true rfl⟩) (b_preV (pp := 1) (q := 0) hW hp8 rfl xW_0 rfl) rfl rfl hl.1 rfl (lv_room (Nat.le_of_ble_eq_true rfl)) dX0_sleeps_39 ⟨Nat.le_of_ble_eq_true rfl, Nat.le_of_ble_eq_true rfl⟩) hW hp8 (fun _ _ H locs hW => ?_)
      have hW : bW D g A s H locs [xW g adX (adN 0) (adT 0) iX X8, vW g adN N, gW L kd nu aa] := hW
      cases hf
      exact b_iret hx hb hr hlk hE hW () rfl trivial rfl dX0_sleeps_42
    · have hf := o_f hf c6
      refine lv_aload_n hx hb dX0_sleeps_19 rfl (lv_at hl 0 rfl) ?_
      refine b_get hx hb hts in_X0 hown hW 1 0 0 0 rfl xW_0 rfl (by decide) ⟨rfl, rfl, rfl⟩ (hts _ q227) xW_g0 dX0_sleeps_20 ?_
      obtain ⟨N9, hc9, hf⟩ := o_b1s hf
      have hp9 : List.Perm [vW g adN N, xW g adX (adN 0) (adT 0) iX X, gW L kd nu aa] ([vW g adN N, gW L kd nu aa] ++ [xW g adX (adN 0) (adT 0) iX X]) := b_perm [0, 2] [1] 3 rfl rfl rfl rfl
      refine b_call0 ⟨rfl, rfl⟩ (va_runV (As := []) (rest := []) ⟨hx, hb, hml, hown, hts⟩ (m_X1_night l D g H.size adN fu N L kd nu aa N9 hc9) (cwV 0 hts (lw_V q1135 q1136 q1137 q77 q1138) rfl rfl rfl (by decide +kernel) ⟨Nat.le_of_ble_eq_true rfl, Nat.le_of_ble_eq_true rfl⟩) (b_preV (pp := 0) (q := 0) hW hp9 rfl vW_0 rfl) rfl rfl hl.1 rfl (lv_room (Nat.le_of_ble_eq_true rfl)) dX0_sleeps_23 ⟨Nat.le_of_ble_eq_true rfl, Nat.le_of_ble_eq_true rfl⟩) hW hp9 (fun _ _ H locs hW => ?_)
      have hW : bW D g A s H locs [vW g adN N9, gW L kd nu aa, xW g adX (adN 0) (adT 0) iX X] := hW
      refine b_get hx hb hts in_X1 hown hW 0 0 1 9 rfl vW_0 rfl (by decide) ⟨rfl, rfl, rfl⟩ (hts _ q158) vW_g9 dX0_sleeps_26 ?_
      refine lv_iload_n hx hb dX0_sleeps_29 rfl (lv_at hl 1 rfl) ?_
      obtain ⟨h10, hf⟩ := o_cs hf
      refine b_agrI hx hb hW 0 10 rfl vW_10 h10 dX0_sleeps_30 ?_
      refine lv_iload_n hx hb dX0_sleeps_31 rfl (lv_at hl 2 rfl) ?_
      obtain ⟨h11, hf⟩ := o_cs hf
      refine b_iald hx hb hW 0 (11 + ix x1) rfl (vW_r11 (inB_lt h10)) h11 dX0_sleeps_32 ?_
      refine lv_goto (tgt := 42) hx hb dX0_sleeps_33 (by decide) ?_
      cases hf
      exact b_iret hx hb hr hlk hE (b_perms hW (b_ord [2, 0, 1] 3 rfl rfl rfl)) () rfl trivial rfl dX0_sleeps_42
def f_X0_guests (fu : Nat) (X : BC) (N : BC) (L : List Nat) (kd : Nat → Nat) (nu : Nat → Int32) (aa : Nat → Int32) (x1 : Int32) : Option (Int32 × BC × BC) :=
 o_b1 (f_X1_isInn N x1) fun (r1 : Int32) =>
 (if r1 = 0 then
 o_b2 (f_X0_no X (-2)) fun (r3 : Int32) (X4 : BC) =>
 some (r3, X4, N)
 else
 o_b1 (f_X1_night fu N L kd nu aa) fun (N5 : BC) =>
 o_ck (inB x1 6) (some (N5.1 17 (ix x1), X, N5)))
abbrev rm_X0_guests : Room := { frames := 7, cells := 0, slots := 0, locals := 164 }
set_option maxHeartbeats 4000000 in
set_option maxRecDepth 100000 in
theorem m_X0_guests (l : Launch) (D : va_G) (g : Nat → ClassId) (sz : Nat) (adX : Nat → Nat) (iX : Option Nat) (adN : Nat → Nat) (adT : Nat → Nat) (fu : Nat) (X : BC) (N : BC) (L : List Nat) (kd : Nat → Nat) (nu : Nat → Int32) (aa : Nat → Int32) (x1 : Int32) (rO : Int32) (XO : BC) (NO : BC) (hf : f_X0_guests fu X N L kd nu aa x1 = some (rO, XO, NO)) : bMet (S := Unit) l yX0_guests (ws_ yX0_guests cX0_guests 2 (some .int)) rm_X0_guests D g sz [.ref (adX 0), .int x1] [xW g adX (adN 0) (adT 0) iX X, vW g adN N, gW L kd nu aa] (fun _ => True) (fun _ => some (.int rO)) (fun _ => [xW g adX (adN 0) (adT 0) iX XO, vW g adN NO, gW L kd nu aa]) := by
  refine b_met (by decide) (Nat.le_of_ble_eq_true rfl) ?_
  intro p e s m args below meth c A Q ls hx hb hml hr hlk hown hname hts hE hl hW
  revert hW; generalize s.heap = H; intro hW
  have hl : lv_has ls 2 [(0, .ref (adX 0)), (1, .int x1)] := hl
  rw [f_X0_guests] at hf
  refine lv_aload_n hx hb dX0_guests_0 rfl (lv_at hl 0 rfl) ?_
  refine b_get hx hb hts in_X0 hown hW 0 0 0 0 rfl xW_0 rfl (by decide) ⟨rfl, rfl, rfl⟩ (hts _ q227) xW_g0 dX0_guests_1 ?_
  refine lv_iload_n hx hb dX0_guests_4 rfl (lv_at hl 1 rfl) ?_
  obtain ⟨r1, hc1, hf⟩ := o_b1s hf
  have hp1 : List.Perm [xW g adX (adN 0) (adT 0) iX X, vW g adN N, gW L kd nu aa] ([vW g adN N] ++ [xW g adX (adN 0) (adT 0) iX X, gW L kd nu aa]) := b_perm [1] [0, 2] 3 rfl rfl rfl rfl
  refine b_call0 ⟨rfl, rfl⟩ (va_runV (As := [.int x1]) (rest := []) ⟨hx, hb, hml, hown, hts⟩ (m_X1_isInn l D g H.size adN N x1 r1 hc1) (cwV 1 hts (lw_V q672 q673 q674 q77 q675) rfl rfl rfl (by decide +kernel) ⟨Nat.le_of_ble_eq_true rfl, Nat.le_of_ble_eq_true rfl⟩) (b_preV (pp := 1) (q := 0) hW hp1 rfl vW_0 rfl) rfl rfl hl.1 rfl (lv_room (Nat.le_of_ble_eq_true rfl)) dX0_guests_5 ⟨Nat.le_of_ble_eq_true rfl, Nat.le_of_ble_eq_true rfl⟩) hW hp1 (fun _ _ H locs hW => ?_)
  have hW : bW D g A s H locs [vW g adN N, xW g adX (adN 0) (adT 0) iX X, gW L kd nu aa] := hW
  refine lv_if_eq (tgt := 26) hx hb dX0_guests_8 (by decide) (fun c2 => ?_) (fun c2 => ?_)
  · have hf := o_t hf c2
    refine lv_aload_n hx hb dX0_guests_26 rfl (lv_at hl 0 rfl) ?_
    refine lv_bipush (v := (-2)) hx hb dX0_guests_27 (by decide) ?_
    obtain ⟨r3, X4, hc4, hf⟩ := o_b2s hf
    have hp4 : List.Perm [vW g adN N, xW g adX (adN 0) (adT 0) iX X, gW L kd nu aa] ([xW g adX (adN 0) (adT 0) iX X] ++ [vW g adN N, gW L kd nu aa]) := b_perm [1] [0, 2] 3 rfl rfl rfl rfl
    refine b_call0 ⟨rfl, rfl⟩ (va_runV (As := [.int (-2)]) (rest := []) ⟨hx, hb, hml, hown, hts⟩ (m_X0_no l D g H.size adX iX adN adT X (-2) r3 X4 hc4) (cwV 1 hts (lw_V q347 q349 qs2 q76 q350) rfl rfl rfl (by decide +kernel) ⟨Nat.le_of_ble_eq_true rfl, Nat.le_of_ble_eq_true rfl⟩) (b_preV (pp := 1) (q := 0) hW hp4 rfl xW_0 rfl) rfl rfl hl.1 rfl (lv_room (Nat.le_of_ble_eq_true rfl)) dX0_guests_29 ⟨Nat.le_of_ble_eq_true rfl, Nat.le_of_ble_eq_true rfl⟩) hW hp4 (fun _ _ H locs hW => ?_)
    have hW : bW D g A s H locs [xW g adX (adN 0) (adT 0) iX X4, vW g adN N, gW L kd nu aa] := hW
    cases hf
    exact b_iret hx hb hr hlk hE hW () rfl trivial rfl dX0_guests_32
  · have hf := o_f hf c2
    refine lv_aload_n hx hb dX0_guests_11 rfl (lv_at hl 0 rfl) ?_
    refine b_get hx hb hts in_X0 hown hW 1 0 0 0 rfl xW_0 rfl (by decide) ⟨rfl, rfl, rfl⟩ (hts _ q227) xW_g0 dX0_guests_12 ?_
    obtain ⟨N5, hc5, hf⟩ := o_b1s hf
    have hp5 : List.Perm [vW g adN N, xW g adX (adN 0) (adT 0) iX X, gW L kd nu aa] ([vW g adN N, gW L kd nu aa] ++ [xW g adX (adN 0) (adT 0) iX X]) := b_perm [0, 2] [1] 3 rfl rfl rfl rfl
    refine b_call0 ⟨rfl, rfl⟩ (va_runV (As := []) (rest := []) ⟨hx, hb, hml, hown, hts⟩ (m_X1_night l D g H.size adN fu N L kd nu aa N5 hc5) (cwV 0 hts (lw_V q1135 q1136 q1137 q77 q1138) rfl rfl rfl (by decide +kernel) ⟨Nat.le_of_ble_eq_true rfl, Nat.le_of_ble_eq_true rfl⟩) (b_preV (pp := 0) (q := 0) hW hp5 rfl vW_0 rfl) rfl rfl hl.1 rfl (lv_room (Nat.le_of_ble_eq_true rfl)) dX0_guests_15 ⟨Nat.le_of_ble_eq_true rfl, Nat.le_of_ble_eq_true rfl⟩) hW hp5 (fun _ _ H locs hW => ?_)
    have hW : bW D g A s H locs [vW g adN N5, gW L kd nu aa, xW g adX (adN 0) (adT 0) iX X] := hW
    refine b_get hx hb hts in_X1 hown hW 0 0 1 10 rfl vW_0 rfl (by decide) ⟨rfl, rfl, rfl⟩ (hts _ q160) vW_g10 dX0_guests_18 ?_
    refine lv_iload_n hx hb dX0_guests_21 rfl (lv_at hl 1 rfl) ?_
    obtain ⟨h6, hf⟩ := o_cs hf
    refine b_iald hx hb hW 0 17 rfl vW_17 h6 dX0_guests_22 ?_
    refine lv_goto (tgt := 32) hx hb dX0_guests_23 (by decide) ?_
    cases hf
    exact b_iret hx hb hr hlk hE (b_perms hW (b_ord [2, 0, 1] 3 rfl rfl rfl)) () rfl trivial rfl dX0_guests_32
def f_X0_out_L32 (X : BC) (x1 : Int32) (N2 : BC) (rec3 : (Int32 × Int32) → Option (Int32 × BC × BC)) : Int32 × Int32 → Option (Int32 × BC × BC)
  | (v4, v5) =>
    (if (N2.1 0 1) ≤ v5 then
     some (v4, X, N2)
     else
     (if x1 = (-1) then
     o_ck (inB v5 6) (o_lt (v4 + (N2.1 18 (ix v5))) fun (v9 : Int32) =>
     o_lt (v5 + 1) fun (v10 : Int32) =>
     rec3 (v9, v10))
     else
     (if x1 = v5 then
     o_ck (inB v5 6) (o_lt (v4 + (N2.1 18 (ix v5))) fun (v15 : Int32) =>
     o_lt (v5 + 1) fun (v16 : Int32) =>
     rec3 (v15, v16))
     else
     o_lt (v4 + 0) fun (v12 : Int32) =>
     o_lt (v5 + 1) fun (v13 : Int32) =>
     rec3 (v12, v13))))
def f_X0_out_L32_20 (X : BC) (x1 : Int32) (N19 : BC) (rec20 : (Int32 × Int32) → Option (Int32 × BC × BC)) : Int32 × Int32 → Option (Int32 × BC × BC)
  | (v21, v22) =>
    (if (N19.1 0 1) ≤ v22 then
     some (v21, X, N19)
     else
     (if x1 = (-1) then
     o_ck (inB v22 6) (o_lt (v21 + (N19.1 18 (ix v22))) fun (v26 : Int32) =>
     o_lt (v22 + 1) fun (v27 : Int32) =>
     rec20 (v26, v27))
     else
     (if x1 = v22 then
     o_ck (inB v22 6) (o_lt (v21 + (N19.1 18 (ix v22))) fun (v32 : Int32) =>
     o_lt (v22 + 1) fun (v33 : Int32) =>
     rec20 (v32, v33))
     else
     o_lt (v21 + 0) fun (v29 : Int32) =>
     o_lt (v22 + 1) fun (v30 : Int32) =>
     rec20 (v29, v30))))
def f_X0_out (fu : Nat) (X : BC) (N : BC) (T : BC) (L : List Nat) (kd : Nat → Nat) (nu : Nat → Int32) (aa : Nat → Int32) (x1 : Int32) : Option (Int32 × BC × BC) :=
 (if x1 = (-1) then
 o_b1 (f_X1_night fu N L kd nu aa) fun (N2 : BC) =>
 o_lp (f_X0_out_L32 X x1 N2) fu (0, 0)
 else
 o_b1 (f_X0_isGoer X N x1) fun (r17 : Int32) =>
 (if r17 = 0 then
 o_b2 (f_X0_no X (-2)) fun (r34 : Int32) (X35 : BC) =>
 some (r34, X35, N)
 else
 o_b1 (f_X1_night fu N L kd nu aa) fun (N19 : BC) =>
 o_lp (f_X0_out_L32_20 X x1 N19) fu (0, 0)))
abbrev rm_X0_out : Room := { frames := 7, cells := 0, slots := 0, locals := 164 }
set_option maxHeartbeats 4000000 in
set_option maxRecDepth 100000 in
theorem m_X0_out (l : Launch) (D : va_G) (g : Nat → ClassId) (sz : Nat) (adX : Nat → Nat) (iX : Option Nat) (adN : Nat → Nat) (adT : Nat → Nat) (fu : Nat) (X : BC) (N : BC) (T : BC) (L : List Nat) (kd : Nat → Nat) (nu : Nat → Int32) (aa : Nat → Int32) (x1 : Int32) (rO : Int32) (XO : BC) (NO : BC) (hf : f_X0_out fu X N T L kd nu aa x1 = some (rO, XO, NO)) : bMet (S := Unit) l yX0_out (ws_ yX0_out cX0_out 4 (some .int)) rm_X0_out D g sz [.ref (adX 0), .int x1] [xW g adX (adN 0) (adT 0) iX X, vW g adN N, vW g adT T, gW L kd nu aa] (fun _ => True) (fun _ => some (.int rO)) (fun _ => [xW g adX (adN 0) (adT 0) iX XO, vW g adN NO, vW g adT T, gW L kd nu aa]) := by
  refine b_met (by decide) (Nat.le_of_ble_eq_true rfl) ?_
  intro p e s m args below meth c A Q ls hx hb hml hr hlk hown hname hts hE hl hW
  revert hW; generalize s.heap = H; intro hW
  have hl : lv_has ls 4 [(0, .ref (adX 0)), (1, .int x1)] := hl
  rw [f_X0_out] at hf
  refine lv_iload_n hx hb dX0_out_0 rfl (lv_at hl 1 rfl) ?_
  refine lv_iconst (v := (-1)) hx hb dX0_out_1 (by decide) ?_
  refine lv_icmp_eq (tgt := 20) hx hb dX0_out_2 (by decide) (fun c1 => ?_) (fun c1 => ?_)
  · have hf := o_t hf c1
    refine lv_aload_n hx hb dX0_out_20 rfl (lv_at hl 0 rfl) ?_
    refine b_get hx hb hts in_X0 hown hW 0 0 0 0 rfl xW_0 rfl (by decide) ⟨rfl, rfl, rfl⟩ (hts _ q227) xW_g0 dX0_out_21 ?_
    obtain ⟨N2, hc2, hf⟩ := o_b1s hf
    have hp2 : List.Perm [xW g adX (adN 0) (adT 0) iX X, vW g adN N, vW g adT T, gW L kd nu aa] ([vW g adN N, gW L kd nu aa] ++ [xW g adX (adN 0) (adT 0) iX X, vW g adT T]) := b_perm [1, 3] [0, 2] 4 rfl rfl rfl rfl
    refine b_call0 ⟨rfl, rfl⟩ (va_runV (As := []) (rest := []) ⟨hx, hb, hml, hown, hts⟩ (m_X1_night l D g H.size adN fu N L kd nu aa N2 hc2) (cwV 0 hts (lw_V q1135 q1136 q1137 q77 q1138) rfl rfl rfl (by decide +kernel) ⟨Nat.le_of_ble_eq_true rfl, Nat.le_of_ble_eq_true rfl⟩) (b_preV (pp := 1) (q := 0) hW hp2 rfl vW_0 rfl) rfl rfl hl.1 rfl (lv_room (Nat.le_of_ble_eq_true rfl)) dX0_out_24 ⟨Nat.le_of_ble_eq_true rfl, Nat.le_of_ble_eq_true rfl⟩) hW hp2 (fun _ _ H locs hW => ?_)
    have hW : bW D g A s H locs [vW g adN N2, gW L kd nu aa, xW g adX (adN 0) (adT 0) iX X, vW g adT T] := hW
    refine lv_pop hx hb dX0_out_27 rfl ?_
    refine lv_iconst (v := 0) hx hb dX0_out_28 (by decide) ?_
    refine lv_istore_n (lv' := [(2, .int 0), (0, .ref (adX 0)), (1, .int x1)]) hx hb dX0_out_29 rfl hl (by decide) rfl (fun ls hl => ?_)
    refine lv_iconst (v := 0) hx hb dX0_out_30 (by decide) ?_
    refine lv_istore_n (lv' := [(3, .int 0), (2, .int 0), (0, .ref (adX 0)), (1, .int x1)]) hx hb dX0_out_31 rfl hl (by decide) rfl (fun ls hl => ?_)
    obtain ⟨stp3, est3, hf⟩ := o_ln hf
    have L3 : ∀ (n : Nat) (v4 : Int32) (v5 : Int32) (H : Heap) (locs : List Loc) (ls : Array Slot), bW D g A s H locs [vW g adN N2, gW L kd nu aa, xW g adX (adN 0) (adT 0) iX X, vW g adT T] → lv_has ls 4 [(3, .int v5), (2, .int v4), (0, .ref (adX 0)), (1, .int x1)] → o_lp stp3 n (v4, v5) = some (rO, XO, NO) → W p l e rm_X0_out s m args below meth c H locs 0 0 Q (F0 m 32 ls []) := by
      intro n3
      induction n3 with
      | zero => intro v4 v5 H locs ls hW hl hf; exact (o_lz hf).elim
      | succ n3 ih3 =>
        intro v4 v5 H locs ls hW hl hf
        have hf := o_lu est3 hf
        rw [f_X0_out_L32] at hf
        refine lv_iload_n hx hb dX0_out_32 rfl (lv_at hl 0 rfl) ?_
        refine lv_aload_n hx hb dX0_out_33 rfl (lv_at hl 2 rfl) ?_
        refine b_get hx hb hts in_X0 hown hW 2 0 0 0 rfl xW_0 rfl (by decide) ⟨rfl, rfl, rfl⟩ (hts _ q227) xW_g0 dX0_out_34 ?_
        refine b_get hx hb hts in_X1 hown hW 0 0 1 13 rfl vW_0 rfl (by decide) ⟨rfl, rfl, rfl⟩ (hts _ q170) vW_g13 dX0_out_37 ?_
        refine lv_icmp_ge (tgt := 75) hx hb dX0_out_40 (by decide) (fun c6 => ?_) (fun c6 => ?_)
        · have hf := o_t hf c6
          refine lv_iload_n hx hb dX0_out_75 rfl (lv_at hl 1 rfl) ?_
          cases hf
          exact b_iret hx hb hr hlk hE (b_perms hW (b_ord [2, 0, 3, 1] 4 rfl rfl rfl)) () rfl trivial rfl dX0_out_76
        · have hf := o_f hf c6
          refine lv_iload_n hx hb dX0_out_43 rfl (lv_at hl 1 rfl) ?_
          refine lv_iload_n hx hb dX0_out_44 rfl (lv_at hl 3 rfl) ?_
          refine lv_iconst (v := (-1)) hx hb dX0_out_45 (by decide) ?_
          refine lv_icmp_eq (tgt := 54) hx hb dX0_out_46 (by decide) (fun c7 => ?_) (fun c7 => ?_)
          · have hf := o_t hf c7
            refine lv_aload_n hx hb dX0_out_54 rfl (lv_at hl 2 rfl) ?_
            refine b_get hx hb hts in_X0 hown hW 2 0 0 0 rfl xW_0 rfl (by decide) ⟨rfl, rfl, rfl⟩ (hts _ q227) xW_g0 dX0_out_55 ?_
            refine b_get hx hb hts in_X1 hown hW 0 0 1 11 rfl vW_0 rfl (by decide) ⟨rfl, rfl, rfl⟩ (hts _ q162) vW_g11 dX0_out_58 ?_
            refine lv_iload_n hx hb dX0_out_61 rfl (lv_at hl 0 rfl) ?_
            obtain ⟨h8, hf⟩ := o_cs hf
            refine b_iald hx hb hW 0 18 rfl vW_18 h8 dX0_out_62 ?_
            refine lv_goto (tgt := 67) hx hb dX0_out_63 (by decide) ?_
            refine lv_iadd hx hb dX0_out_67 ?_
            obtain ⟨v9, ev9, hf⟩ := o_ls hf
            refine b_topi ev9 ?_
            refine lv_istore_n (lv' := [(2, .int v9), (3, .int v5), (0, .ref (adX 0)), (1, .int x1)]) hx hb dX0_out_68 rfl hl (by decide) rfl (fun ls hl => ?_)
            obtain ⟨v10, ev10, hf⟩ := o_ls hf
            refine lv_iinc (v := v10) (lv' := [(3, .int v10), (2, .int v9), (0, .ref (adX 0)), (1, .int x1)]) hx hb dX0_out_69 hl (k := 1) rfl ev10 (by decide) rfl (fun ls hl => ?_)
            refine lv_goto (tgt := 32) hx hb dX0_out_72 (by decide) ?_
            exact ih3 _ _ _ _ _ hW (lv_sub hl [0, 1, 2, 3] rfl) hf
          · have hf := o_f hf c7
            refine lv_iload_n hx hb dX0_out_49 rfl (lv_at hl 3 rfl) ?_
            refine lv_iload_n hx hb dX0_out_50 rfl (lv_at hl 0 rfl) ?_
            refine lv_icmp_ne (tgt := 66) hx hb dX0_out_51 (by decide) (fun c11 => ?_) (fun c11 => ?_)
            · have hf := o_f hf c11
              refine lv_iconst (v := 0) hx hb dX0_out_66 (by decide) ?_
              refine lv_iadd hx hb dX0_out_67 ?_
              obtain ⟨v12, ev12, hf⟩ := o_ls hf
              refine b_topi ev12 ?_
              refine lv_istore_n (lv' := [(2, .int v12), (3, .int v5), (0, .ref (adX 0)), (1, .int x1)]) hx hb dX0_out_68 rfl hl (by decide) rfl (fun ls hl => ?_)
              obtain ⟨v13, ev13, hf⟩ := o_ls hf
              refine lv_iinc (v := v13) (lv' := [(3, .int v13), (2, .int v12), (0, .ref (adX 0)), (1, .int x1)]) hx hb dX0_out_69 hl (k := 1) rfl ev13 (by decide) rfl (fun ls hl => ?_)
              refine lv_goto (tgt := 32) hx hb dX0_out_72 (by decide) ?_
              exact ih3 _ _ _ _ _ hW (lv_sub hl [0, 1, 2, 3] rfl) hf
            · have hf := o_t hf c11
              refine lv_aload_n hx hb dX0_out_54 rfl (lv_at hl 2 rfl) ?_
              refine b_get hx hb hts in_X0 hown hW 2 0 0 0 rfl xW_0 rfl (by decide) ⟨rfl, rfl, rfl⟩ (hts _ q227) xW_g0 dX0_out_55 ?_
              refine b_get hx hb hts in_X1 hown hW 0 0 1 11 rfl vW_0 rfl (by decide) ⟨rfl, rfl, rfl⟩ (hts _ q162) vW_g11 dX0_out_58 ?_
              refine lv_iload_n hx hb dX0_out_61 rfl (lv_at hl 0 rfl) ?_
              obtain ⟨h14, hf⟩ := o_cs hf
              refine b_iald hx hb hW 0 18 rfl vW_18 h14 dX0_out_62 ?_
              refine lv_goto (tgt := 67) hx hb dX0_out_63 (by decide) ?_
              refine lv_iadd hx hb dX0_out_67 ?_
              obtain ⟨v15, ev15, hf⟩ := o_ls hf
              refine b_topi ev15 ?_
              refine lv_istore_n (lv' := [(2, .int v15), (3, .int v5), (0, .ref (adX 0)), (1, .int x1)]) hx hb dX0_out_68 rfl hl (by decide) rfl (fun ls hl => ?_)
              obtain ⟨v16, ev16, hf⟩ := o_ls hf
              refine lv_iinc (v := v16) (lv' := [(3, .int v16), (2, .int v15), (0, .ref (adX 0)), (1, .int x1)]) hx hb dX0_out_69 hl (k := 1) rfl ev16 (by decide) rfl (fun ls hl => ?_)
              refine lv_goto (tgt := 32) hx hb dX0_out_72 (by decide) ?_
              exact ih3 _ _ _ _ _ hW (lv_sub hl [0, 1, 2, 3] rfl) hf
    exact L3 _ _ _ _ _ _ hW (lv_sub hl [0, 1, 2, 3] rfl) hf
  · have hf := o_f hf c1
    refine lv_aload_n hx hb dX0_out_5 rfl (lv_at hl 0 rfl) ?_
    refine lv_iload_n hx hb dX0_out_6 rfl (lv_at hl 1 rfl) ?_
    obtain ⟨r17, hc17, hf⟩ := o_b1s hf
    have hp17 : List.Perm [xW g adX (adN 0) (adT 0) iX X, vW g adN N, vW g adT T, gW L kd nu aa] ([xW g adX (adN 0) (adT 0) iX X, vW g adN N] ++ [vW g adT T, gW L kd nu aa]) := b_perm [0, 1] [2, 3] 4 rfl rfl rfl rfl
    refine b_call0 ⟨rfl, rfl⟩ (va_runV (As := [.int x1]) (rest := []) ⟨hx, hb, hml, hown, hts⟩ (m_X0_isGoer l D g H.size adX iX adN adT X N x1 r17 hc17) (cwV 1 hts (lw_V q485 q487 qs4 q76 q488) rfl rfl rfl (by decide +kernel) ⟨Nat.le_of_ble_eq_true rfl, Nat.le_of_ble_eq_true rfl⟩) (b_preV (pp := 0) (q := 0) hW hp17 rfl xW_0 rfl) rfl rfl hl.1 rfl (lv_room (Nat.le_of_ble_eq_true rfl)) dX0_out_7 ⟨Nat.le_of_ble_eq_true rfl, Nat.le_of_ble_eq_true rfl⟩) hW hp17 (fun _ _ H locs hW => ?_)
    have hW : bW D g A s H locs [xW g adX (adN 0) (adT 0) iX X, vW g adN N, vW g adT T, gW L kd nu aa] := hW
    refine lv_if_ne (tgt := 20) hx hb dX0_out_10 (by decide) (fun c18 => ?_) (fun c18 => ?_)
    · have hf := o_f hf c18
      refine lv_aload_n hx hb dX0_out_20 rfl (lv_at hl 0 rfl) ?_
      refine b_get hx hb hts in_X0 hown hW 0 0 0 0 rfl xW_0 rfl (by decide) ⟨rfl, rfl, rfl⟩ (hts _ q227) xW_g0 dX0_out_21 ?_
      obtain ⟨N19, hc19, hf⟩ := o_b1s hf
      have hp19 : List.Perm [xW g adX (adN 0) (adT 0) iX X, vW g adN N, vW g adT T, gW L kd nu aa] ([vW g adN N, gW L kd nu aa] ++ [xW g adX (adN 0) (adT 0) iX X, vW g adT T]) := b_perm [1, 3] [0, 2] 4 rfl rfl rfl rfl
      refine b_call0 ⟨rfl, rfl⟩ (va_runV (As := []) (rest := []) ⟨hx, hb, hml, hown, hts⟩ (m_X1_night l D g H.size adN fu N L kd nu aa N19 hc19) (cwV 0 hts (lw_V q1135 q1136 q1137 q77 q1138) rfl rfl rfl (by decide +kernel) ⟨Nat.le_of_ble_eq_true rfl, Nat.le_of_ble_eq_true rfl⟩) (b_preV (pp := 1) (q := 0) hW hp19 rfl vW_0 rfl) rfl rfl hl.1 rfl (lv_room (Nat.le_of_ble_eq_true rfl)) dX0_out_24 ⟨Nat.le_of_ble_eq_true rfl, Nat.le_of_ble_eq_true rfl⟩) hW hp19 (fun _ _ H locs hW => ?_)
      have hW : bW D g A s H locs [vW g adN N19, gW L kd nu aa, xW g adX (adN 0) (adT 0) iX X, vW g adT T] := hW
      refine lv_pop hx hb dX0_out_27 rfl ?_
      refine lv_iconst (v := 0) hx hb dX0_out_28 (by decide) ?_
      refine lv_istore_n (lv' := [(2, .int 0), (0, .ref (adX 0)), (1, .int x1)]) hx hb dX0_out_29 rfl hl (by decide) rfl (fun ls hl => ?_)
      refine lv_iconst (v := 0) hx hb dX0_out_30 (by decide) ?_
      refine lv_istore_n (lv' := [(3, .int 0), (2, .int 0), (0, .ref (adX 0)), (1, .int x1)]) hx hb dX0_out_31 rfl hl (by decide) rfl (fun ls hl => ?_)
      obtain ⟨stp20, est20, hf⟩ := o_ln hf
      have L20 : ∀ (n : Nat) (v21 : Int32) (v22 : Int32) (H : Heap) (locs : List Loc) (ls : Array Slot), bW D g A s H locs [vW g adN N19, gW L kd nu aa, xW g adX (adN 0) (adT 0) iX X, vW g adT T] → lv_has ls 4 [(3, .int v22), (2, .int v21), (0, .ref (adX 0)), (1, .int x1)] → o_lp stp20 n (v21, v22) = some (rO, XO, NO) → W p l e rm_X0_out s m args below meth c H locs 0 0 Q (F0 m 32 ls []) := by
        intro n20
        induction n20 with
        | zero => intro v21 v22 H locs ls hW hl hf; exact (o_lz hf).elim
        | succ n20 ih20 =>
          intro v21 v22 H locs ls hW hl hf
          have hf := o_lu est20 hf
          rw [f_X0_out_L32_20] at hf
          refine lv_iload_n hx hb dX0_out_32 rfl (lv_at hl 0 rfl) ?_
          refine lv_aload_n hx hb dX0_out_33 rfl (lv_at hl 2 rfl) ?_
          refine b_get hx hb hts in_X0 hown hW 2 0 0 0 rfl xW_0 rfl (by decide) ⟨rfl, rfl, rfl⟩ (hts _ q227) xW_g0 dX0_out_34 ?_
          refine b_get hx hb hts in_X1 hown hW 0 0 1 13 rfl vW_0 rfl (by decide) ⟨rfl, rfl, rfl⟩ (hts _ q170) vW_g13 dX0_out_37 ?_
          refine lv_icmp_ge (tgt := 75) hx hb dX0_out_40 (by decide) (fun c23 => ?_) (fun c23 => ?_)
          · have hf := o_t hf c23
            refine lv_iload_n hx hb dX0_out_75 rfl (lv_at hl 1 rfl) ?_
            cases hf
            exact b_iret hx hb hr hlk hE (b_perms hW (b_ord [2, 0, 3, 1] 4 rfl rfl rfl)) () rfl trivial rfl dX0_out_76
          · have hf := o_f hf c23
            refine lv_iload_n hx hb dX0_out_43 rfl (lv_at hl 1 rfl) ?_
            refine lv_iload_n hx hb dX0_out_44 rfl (lv_at hl 3 rfl) ?_
            refine lv_iconst (v := (-1)) hx hb dX0_out_45 (by decide) ?_
            refine lv_icmp_eq (tgt := 54) hx hb dX0_out_46 (by decide) (fun c24 => ?_) (fun c24 => ?_)
            · have hf := o_t hf c24
              refine lv_aload_n hx hb dX0_out_54 rfl (lv_at hl 2 rfl) ?_
              refine b_get hx hb hts in_X0 hown hW 2 0 0 0 rfl xW_0 rfl (by decide) ⟨rfl, rfl, rfl⟩ (hts _ q227) xW_g0 dX0_out_55 ?_
              refine b_get hx hb hts in_X1 hown hW 0 0 1 11 rfl vW_0 rfl (by decide) ⟨rfl, rfl, rfl⟩ (hts _ q162) vW_g11 dX0_out_58 ?_
              refine lv_iload_n hx hb dX0_out_61 rfl (lv_at hl 0 rfl) ?_
              obtain ⟨h25, hf⟩ := o_cs hf
              refine b_iald hx hb hW 0 18 rfl vW_18 h25 dX0_out_62 ?_
              refine lv_goto (tgt := 67) hx hb dX0_out_63 (by decide) ?_
              refine lv_iadd hx hb dX0_out_67 ?_
              obtain ⟨v26, ev26, hf⟩ := o_ls hf
              refine b_topi ev26 ?_
              refine lv_istore_n (lv' := [(2, .int v26), (3, .int v22), (0, .ref (adX 0)), (1, .int x1)]) hx hb dX0_out_68 rfl hl (by decide) rfl (fun ls hl => ?_)
              obtain ⟨v27, ev27, hf⟩ := o_ls hf
              refine lv_iinc (v := v27) (lv' := [(3, .int v27), (2, .int v26), (0, .ref (adX 0)), (1, .int x1)]) hx hb dX0_out_69 hl (k := 1) rfl ev27 (by decide) rfl (fun ls hl => ?_)
              refine lv_goto (tgt := 32) hx hb dX0_out_72 (by decide) ?_
              exact ih20 _ _ _ _ _ hW (lv_sub hl [0, 1, 2, 3] rfl) hf
            · have hf := o_f hf c24
              refine lv_iload_n hx hb dX0_out_49 rfl (lv_at hl 3 rfl) ?_
              refine lv_iload_n hx hb dX0_out_50 rfl (lv_at hl 0 rfl) ?_
              refine lv_icmp_ne (tgt := 66) hx hb dX0_out_51 (by decide) (fun c28 => ?_) (fun c28 => ?_)
              · have hf := o_f hf c28
                refine lv_iconst (v := 0) hx hb dX0_out_66 (by decide) ?_
                refine lv_iadd hx hb dX0_out_67 ?_
                obtain ⟨v29, ev29, hf⟩ := o_ls hf
                refine b_topi ev29 ?_
                refine lv_istore_n (lv' := [(2, .int v29), (3, .int v22), (0, .ref (adX 0)), (1, .int x1)]) hx hb dX0_out_68 rfl hl (by decide) rfl (fun ls hl => ?_)
                obtain ⟨v30, ev30, hf⟩ := o_ls hf
                refine lv_iinc (v := v30) (lv' := [(3, .int v30), (2, .int v29), (0, .ref (adX 0)), (1, .int x1)]) hx hb dX0_out_69 hl (k := 1) rfl ev30 (by decide) rfl (fun ls hl => ?_)
                refine lv_goto (tgt := 32) hx hb dX0_out_72 (by decide) ?_
                exact ih20 _ _ _ _ _ hW (lv_sub hl [0, 1, 2, 3] rfl) hf
              · have hf := o_t hf c28
                refine lv_aload_n hx hb dX0_out_54 rfl (lv_at hl 2 rfl) ?_
                refine b_get hx hb hts in_X0 hown hW 2 0 0 0 rfl xW_0 rfl (by decide) ⟨rfl, rfl, rfl⟩ (hts _ q227) xW_g0 dX0_out_55 ?_
                refine b_get hx hb hts in_X1 hown hW 0 0 1 11 rfl vW_0 rfl (by decide) ⟨rfl, rfl, rfl⟩ (hts _ q162) vW_g11 dX0_out_58 ?_
                refine lv_iload_n hx hb dX0_out_61 rfl (lv_at hl 0 rfl) ?_
                obtain ⟨h31, hf⟩ := o_cs hf
                refine b_iald hx hb hW 0 18 rfl vW_18 h31 dX0_out_62 ?_
                refine lv_goto (tgt := 67) hx hb dX0_out_63 (by decide) ?_
                refine lv_iadd hx hb dX0_out_67 ?_
                obtain ⟨v32, ev32, hf⟩ := o_ls hf
                refine b_topi ev32 ?_
                refine lv_istore_n (lv' := [(2, .int v32), (3, .int v22), (0, .ref (adX 0)), (1, .int x1)]) hx hb dX0_out_68 rfl hl (by decide) rfl (fun ls hl => ?_)
                obtain ⟨v33, ev33, hf⟩ := o_ls hf
                refine lv_iinc (v := v33) (lv' := [(3, .int v33), (2, .int v32), (0, .ref (adX 0)), (1, .int x1)]) hx hb dX0_out_69 hl (k := 1) rfl ev33 (by decide) rfl (fun ls hl => ?_)
                refine lv_goto (tgt := 32) hx hb dX0_out_72 (by decide) ?_
                exact ih20 _ _ _ _ _ hW (lv_sub hl [0, 1, 2, 3] rfl) hf
      exact L20 _ _ _ _ _ _ hW (lv_sub hl [0, 1, 2, 3] rfl) hf
    · have hf := o_t hf c18
      refine lv_aload_n hx hb dX0_out_13 rfl (lv_at hl 0 rfl) ?_
      refine lv_bipush (v := (-2)) hx hb dX0_out_14 (by decide) ?_
      obtain ⟨r34, X35, hc35, hf⟩ := o_b2s hf
      have hp35 : List.Perm [xW g adX (adN 0) (adT 0) iX X, vW g adN N, vW g adT T, gW L kd nu aa] ([xW g adX (adN 0) (adT 0) iX X] ++ [vW g adN N, vW g adT T, gW L kd nu aa]) := b_perm [0] [1, 2, 3] 4 rfl rfl rfl rfl
      refine b_call0 ⟨rfl, rfl⟩ (va_runV (As := [.int (-2)]) (rest := []) ⟨hx, hb, hml, hown, hts⟩ (m_X0_no l D g H.size adX iX adN adT X (-2) r34 X35 hc35) (cwV 1 hts (lw_V q347 q349 qs2 q76 q350) rfl rfl rfl (by decide +kernel) ⟨Nat.le_of_ble_eq_true rfl, Nat.le_of_ble_eq_true rfl⟩) (b_preV (pp := 0) (q := 0) hW hp35 rfl xW_0 rfl) rfl rfl hl.1 rfl (lv_room (Nat.le_of_ble_eq_true rfl)) dX0_out_16 ⟨Nat.le_of_ble_eq_true rfl, Nat.le_of_ble_eq_true rfl⟩) hW hp35 (fun _ _ H locs hW => ?_)
      have hW : bW D g A s H locs [xW g adX (adN 0) (adT 0) iX X35, vW g adN N, vW g adT T, gW L kd nu aa] := hW
      cases hf
      exact b_iret hx hb hr hlk hE hW () rfl trivial rfl dX0_out_19
def f_X0_full_L12 (N1 : BC) (rec2 : (Int32 × Int32) → Option (Int32 × BC)) : Int32 × Int32 → Option (Int32 × BC)
  | (v3, v4) =>
    (if (N1.1 0 0) ≤ v4 then
     some (v3, N1)
     else
     o_b1 (f_X1_isFull N1 v4) fun (r6 : Int32) =>
     (if r6 = 0 then
     o_lt (v3 ||| 0) fun (v8 : Int32) =>
     o_lt (v4 + 1) fun (v9 : Int32) =>
     rec2 (v8, v9)
     else
     o_lt (v3 ||| (1 <<< (v4 &&& 31))) fun (v10 : Int32) =>
     o_lt (v4 + 1) fun (v11 : Int32) =>
     rec2 (v10, v11)))
def f_X0_full (fu : Nat) (X : BC) (N : BC) (T : BC) (L : List Nat) (kd : Nat → Nat) (nu : Nat → Int32) (aa : Nat → Int32) : Option (Int32 × BC) :=
 o_b1 (f_X1_night fu N L kd nu aa) fun (N1 : BC) =>
 o_lp (f_X0_full_L12 N1) fu (0, 0)
abbrev rm_X0_full : Room := { frames := 7, cells := 0, slots := 0, locals := 164 }
set_option maxHeartbeats 4000000 in
set_option maxRecDepth 100000 in
theorem m_X0_full (l : Launch) (D : va_G) (g : Nat → ClassId) (sz : Nat) (adX : Nat → Nat) (iX : Option Nat) (adN : Nat → Nat) (adT : Nat → Nat) (fu : Nat) (X : BC) (N : BC) (T : BC) (L : List Nat) (kd : Nat → Nat) (nu : Nat → Int32) (aa : Nat → Int32) (rO : Int32) (NO : BC) (hf : f_X0_full fu X N T L kd nu aa = some (rO, NO)) : bMet (S := Unit) l yX0_full (ws_ yX0_full cX0_full 3 (some .int)) rm_X0_full D g sz [.ref (adX 0)] [xW g adX (adN 0) (adT 0) iX X, vW g adN N, vW g adT T, gW L kd nu aa] (fun _ => True) (fun _ => some (.int rO)) (fun _ => [xW g adX (adN 0) (adT 0) iX X, vW g adN NO, vW g adT T, gW L kd nu aa]) := by
  refine b_met (by decide) (Nat.le_of_ble_eq_true rfl) ?_
  intro p e s m args below meth c A Q ls hx hb hml hr hlk hown hname hts hE hl hW
  revert hW; generalize s.heap = H; intro hW
  have hl : lv_has ls 3 [(0, .ref (adX 0))] := hl
  rw [f_X0_full] at hf
  refine lv_aload_n hx hb dX0_full_0 rfl (lv_at hl 0 rfl) ?_
  refine b_get hx hb hts in_X0 hown hW 0 0 0 0 rfl xW_0 rfl (by decide) ⟨rfl, rfl, rfl⟩ (hts _ q227) xW_g0 dX0_full_1 ?_
  obtain ⟨N1, hc1, hf⟩ := o_b1s hf
  have hp1 : List.Perm [xW g adX (adN 0) (adT 0) iX X, vW g adN N, vW g adT T, gW L kd nu aa] ([vW g adN N, gW L kd nu aa] ++ [xW g adX (adN 0) (adT 0) iX X, vW g adT T]) := b_perm [1, 3] [0, 2] 4 rfl rfl rfl rfl
  refine b_call0 ⟨rfl, rfl⟩ (va_runV (As := []) (rest := []) ⟨hx, hb, hml, hown, hts⟩ (m_X1_night l D g H.size adN fu N L kd nu aa N1 hc1) (cwV 0 hts (lw_V q1135 q1136 q1137 q77 q1138) rfl rfl rfl (by decide +kernel) ⟨Nat.le_of_ble_eq_true rfl, Nat.le_of_ble_eq_true rfl⟩) (b_preV (pp := 1) (q := 0) hW hp1 rfl vW_0 rfl) rfl rfl hl.1 rfl (lv_room (Nat.le_of_ble_eq_true rfl)) dX0_full_4 ⟨Nat.le_of_ble_eq_true rfl, Nat.le_of_ble_eq_true rfl⟩) hW hp1 (fun _ _ H locs hW => ?_)
  have hW : bW D g A s H locs [vW g adN N1, gW L kd nu aa, xW g adX (adN 0) (adT 0) iX X, vW g adT T] := hW
  refine lv_pop hx hb dX0_full_7 rfl ?_
  refine lv_iconst (v := 0) hx hb dX0_full_8 (by decide) ?_
  refine lv_istore_n (lv' := [(1, .int 0), (0, .ref (adX 0))]) hx hb dX0_full_9 rfl hl (by decide) rfl (fun ls hl => ?_)
  refine lv_iconst (v := 0) hx hb dX0_full_10 (by decide) ?_
  refine lv_istore_n (lv' := [(2, .int 0), (1, .int 0), (0, .ref (adX 0))]) hx hb dX0_full_11 rfl hl (by decide) rfl (fun ls hl => ?_)
  obtain ⟨stp2, est2, hf⟩ := o_ln hf
  have L2 : ∀ (n : Nat) (v3 : Int32) (v4 : Int32) (H : Heap) (locs : List Loc) (ls : Array Slot), bW D g A s H locs [vW g adN N1, gW L kd nu aa, xW g adX (adN 0) (adT 0) iX X, vW g adT T] → lv_has ls 3 [(2, .int v4), (1, .int v3), (0, .ref (adX 0))] → o_lp stp2 n (v3, v4) = some (rO, NO) → W p l e rm_X0_full s m args below meth c H locs 0 0 Q (F0 m 12 ls []) := by
    intro n2
    induction n2 with
    | zero => intro v3 v4 H locs ls hW hl hf; exact (o_lz hf).elim
    | succ n2 ih2 =>
      intro v3 v4 H locs ls hW hl hf
      have hf := o_lu est2 hf
      rw [f_X0_full_L12] at hf
      refine lv_iload_n hx hb dX0_full_12 rfl (lv_at hl 0 rfl) ?_
      refine lv_aload_n hx hb dX0_full_13 rfl (lv_at hl 2 rfl) ?_
      refine b_get hx hb hts in_X0 hown hW 2 0 0 0 rfl xW_0 rfl (by decide) ⟨rfl, rfl, rfl⟩ (hts _ q227) xW_g0 dX0_full_14 ?_
      refine b_get hx hb hts in_X1 hown hW 0 0 1 12 rfl vW_0 rfl (by decide) ⟨rfl, rfl, rfl⟩ (hts _ q167) vW_g12 dX0_full_17 ?_
      refine lv_icmp_ge (tgt := 50) hx hb dX0_full_20 (by decide) (fun c5 => ?_) (fun c5 => ?_)
      · have hf := o_t hf c5
        refine lv_iload_n hx hb dX0_full_50 rfl (lv_at hl 1 rfl) ?_
        cases hf
        exact b_iret hx hb hr hlk hE (b_perms hW (b_ord [2, 0, 3, 1] 4 rfl rfl rfl)) () rfl trivial rfl dX0_full_51
      · have hf := o_f hf c5
        refine lv_iload_n hx hb dX0_full_23 rfl (lv_at hl 1 rfl) ?_
        refine lv_aload_n hx hb dX0_full_24 rfl (lv_at hl 2 rfl) ?_
        refine b_get hx hb hts in_X0 hown hW 2 0 0 0 rfl xW_0 rfl (by decide) ⟨rfl, rfl, rfl⟩ (hts _ q227) xW_g0 dX0_full_25 ?_
        refine lv_iload_n hx hb dX0_full_28 rfl (lv_at hl 0 rfl) ?_
        obtain ⟨r6, hc6, hf⟩ := o_b1s hf
        have hp6 : List.Perm [vW g adN N1, gW L kd nu aa, xW g adX (adN 0) (adT 0) iX X, vW g adT T] ([vW g adN N1] ++ [gW L kd nu aa, xW g adX (adN 0) (adT 0) iX X, vW g adT T]) := b_perm [0] [1, 2, 3] 4 rfl rfl rfl rfl
        refine b_call0 ⟨rfl, rfl⟩ (va_runV (As := [.int v4]) (rest := [.int v3]) ⟨hx, hb, hml, hown, hts⟩ (m_X1_isFull l D g H.size adN N1 v4 r6 hc6) (cwV 1 hts (lw_V q1183 q1167 q1168 q77 q1169) rfl rfl rfl (by decide +kernel) ⟨Nat.le_of_ble_eq_true rfl, Nat.le_of_ble_eq_true rfl⟩) (b_preV (pp := 0) (q := 0) hW hp6 rfl vW_0 rfl) rfl rfl hl.1 rfl (lv_room (Nat.le_of_ble_eq_true rfl)) dX0_full_29 ⟨Nat.le_of_ble_eq_true rfl, Nat.le_of_ble_eq_true rfl⟩) hW hp6 (fun _ _ H locs hW => ?_)
        have hW : bW D g A s H locs [vW g adN N1, gW L kd nu aa, xW g adX (adN 0) (adT 0) iX X, vW g adT T] := hW
        refine lv_if_eq (tgt := 41) hx hb dX0_full_32 (by decide) (fun c7 => ?_) (fun c7 => ?_)
        · have hf := o_t hf c7
          refine lv_iconst (v := 0) hx hb dX0_full_41 (by decide) ?_
          refine lv_ior hx hb dX0_full_42 ?_
          obtain ⟨v8, ev8, hf⟩ := o_ls hf
          refine b_topi ev8 ?_
          refine lv_istore_n (lv' := [(1, .int v8), (2, .int v4), (0, .ref (adX 0))]) hx hb dX0_full_43 rfl hl (by decide) rfl (fun ls hl => ?_)
          obtain ⟨v9, ev9, hf⟩ := o_ls hf
          refine lv_iinc (v := v9) (lv' := [(2, .int v9), (1, .int v8), (0, .ref (adX 0))]) hx hb dX0_full_44 hl (k := 1) rfl ev9 (by decide) rfl (fun ls hl => ?_)
          refine lv_goto (tgt := 12) hx hb dX0_full_47 (by decide) ?_
          exact ih2 _ _ _ _ _ hW (lv_sub hl [0, 1, 2] rfl) hf
        · have hf := o_f hf c7
          refine lv_iconst (v := 1) hx hb dX0_full_35 (by decide) ?_
          refine lv_iload_n hx hb dX0_full_36 rfl (lv_at hl 0 rfl) ?_
          refine lv_ishl hx hb dX0_full_37 ?_
          refine lv_goto (tgt := 42) hx hb dX0_full_38 (by decide) ?_
          refine lv_ior hx hb dX0_full_42 ?_
          obtain ⟨v10, ev10, hf⟩ := o_ls hf
          refine b_topi ev10 ?_
          refine lv_istore_n (lv' := [(1, .int v10), (2, .int v4), (0, .ref (adX 0))]) hx hb dX0_full_43 rfl hl (by decide) rfl (fun ls hl => ?_)
          obtain ⟨v11, ev11, hf⟩ := o_ls hf
          refine lv_iinc (v := v11) (lv' := [(2, .int v11), (1, .int v10), (0, .ref (adX 0))]) hx hb dX0_full_44 hl (k := 1) rfl ev11 (by decide) rfl (fun ls hl => ?_)
          refine lv_goto (tgt := 12) hx hb dX0_full_47 (by decide) ?_
          exact ih2 _ _ _ _ _ hW (lv_sub hl [0, 1, 2] rfl) hf
  exact L2 _ _ _ _ _ _ hW (lv_sub hl [0, 1, 2] rfl) hf
def f_X0_joy (fu : Nat) (X : BC) (N : BC) (L : List Nat) (kd : Nat → Nat) (nu : Nat → Int32) (aa : Nat → Int32) (x1 : Int32) : Option (Int32 × BC × BC) :=
 (if x1 = (-1) then
 o_b1 (f_X1_night fu N L kd nu aa) fun (N2 : BC) =>
 o_b1 (f_X1_joy fu N2 x1) fun (r3 : Int32) =>
 some (r3, X, N2)
 else
 o_b1 (f_X0_isGoer X N x1) fun (r4 : Int32) =>
 (if r4 = 0 then
 o_b2 (f_X0_noLow X (-2)) fun (r6 : Int32) (X7 : BC) =>
 some (r6, X7, N)
 else
 o_b1 (f_X1_night fu N L kd nu aa) fun (N8 : BC) =>
 o_b1 (f_X1_joy fu N8 x1) fun (r9 : Int32) =>
 some (r9, X, N8)))
abbrev rm_X0_joy : Room := { frames := 7, cells := 0, slots := 0, locals := 164 }
set_option maxHeartbeats 4000000 in
set_option maxRecDepth 100000 in
theorem m_X0_joy (l : Launch) (D : va_G) (g : Nat → ClassId) (sz : Nat) (adX : Nat → Nat) (iX : Option Nat) (adN : Nat → Nat) (adT : Nat → Nat) (fu : Nat) (X : BC) (N : BC) (L : List Nat) (kd : Nat → Nat) (nu : Nat → Int32) (aa : Nat → Int32) (x1 : Int32) (rO : Int32) (XO : BC) (NO : BC) (hf : f_X0_joy fu X N L kd nu aa x1 = some (rO, XO, NO)) : bMet (S := Unit) l yX0_joy (ws_ yX0_joy cX0_joy 2 (some .int)) rm_X0_joy D g sz [.ref (adX 0), .int x1] [xW g adX (adN 0) (adT 0) iX X, vW g adN N, gW L kd nu aa] (fun _ => True) (fun _ => some (.int rO)) (fun _ => [xW g adX (adN 0) (adT 0) iX XO, vW g adN NO, gW L kd nu aa]) := by
  refine b_met (by decide) (Nat.le_of_ble_eq_true rfl) ?_
  intro p e s m args below meth c A Q ls hx hb hml hr hlk hown hname hts hE hl hW
  revert hW; generalize s.heap = H; intro hW
  have hl : lv_has ls 2 [(0, .ref (adX 0)), (1, .int x1)] := hl
  rw [f_X0_joy] at hf
  refine lv_iload_n hx hb dX0_joy_0 rfl (lv_at hl 1 rfl) ?_
  refine lv_iconst (v := (-1)) hx hb dX0_joy_1 (by decide) ?_
  refine lv_icmp_eq (tgt := 13) hx hb dX0_joy_2 (by decide) (fun c1 => ?_) (fun c1 => ?_)
  · have hf := o_t hf c1
    refine lv_aload_n hx hb dX0_joy_13 rfl (lv_at hl 0 rfl) ?_
    refine b_get hx hb hts in_X0 hown hW 0 0 0 0 rfl xW_0 rfl (by decide) ⟨rfl, rfl, rfl⟩ (hts _ q227) xW_g0 dX0_joy_14 ?_
    obtain ⟨N2, hc2, hf⟩ := o_b1s hf
    have hp2 : List.Perm [xW g adX (adN 0) (adT 0) iX X, vW g adN N, gW L kd nu aa] ([vW g adN N, gW L kd nu aa] ++ [xW g adX (adN 0) (adT 0) iX X]) := b_perm [1, 2] [0] 3 rfl rfl rfl rfl
    refine b_call0 ⟨rfl, rfl⟩ (va_runV (As := []) (rest := []) ⟨hx, hb, hml, hown, hts⟩ (m_X1_night l D g H.size adN fu N L kd nu aa N2 hc2) (cwV 0 hts (lw_V q1135 q1136 q1137 q77 q1138) rfl rfl rfl (by decide +kernel) ⟨Nat.le_of_ble_eq_true rfl, Nat.le_of_ble_eq_true rfl⟩) (b_preV (pp := 1) (q := 0) hW hp2 rfl vW_0 rfl) rfl rfl hl.1 rfl (lv_room (Nat.le_of_ble_eq_true rfl)) dX0_joy_17 ⟨Nat.le_of_ble_eq_true rfl, Nat.le_of_ble_eq_true rfl⟩) hW hp2 (fun _ _ H locs hW => ?_)
    have hW : bW D g A s H locs [vW g adN N2, gW L kd nu aa, xW g adX (adN 0) (adT 0) iX X] := hW
    refine lv_iload_n hx hb dX0_joy_20 rfl (lv_at hl 1 rfl) ?_
    obtain ⟨r3, hc3, hf⟩ := o_b1s hf
    have hp3 : List.Perm [vW g adN N2, gW L kd nu aa, xW g adX (adN 0) (adT 0) iX X] ([vW g adN N2] ++ [gW L kd nu aa, xW g adX (adN 0) (adT 0) iX X]) := b_perm [0] [1, 2] 3 rfl rfl rfl rfl
    refine b_call0 ⟨rfl, rfl⟩ (va_runV (As := [.int x1]) (rest := []) ⟨hx, hb, hml, hown, hts⟩ (m_X1_joy l D g H.size adN fu N2 x1 r3 hc3) (cwV 1 hts (lw_V q1188 q1189 q1190 q77 q1191) rfl rfl rfl (by decide +kernel) ⟨Nat.le_of_ble_eq_true rfl, Nat.le_of_ble_eq_true rfl⟩) (b_preV (pp := 0) (q := 0) hW hp3 rfl vW_0 rfl) rfl rfl hl.1 rfl (lv_room (Nat.le_of_ble_eq_true rfl)) dX0_joy_21 ⟨Nat.le_of_ble_eq_true rfl, Nat.le_of_ble_eq_true rfl⟩) hW hp3 (fun _ _ H locs hW => ?_)
    have hW : bW D g A s H locs [vW g adN N2, gW L kd nu aa, xW g adX (adN 0) (adT 0) iX X] := hW
    refine lv_goto (tgt := 33) hx hb dX0_joy_24 (by decide) ?_
    cases hf
    exact b_iret hx hb hr hlk hE (b_perms hW (b_ord [2, 0, 1] 3 rfl rfl rfl)) () rfl trivial rfl dX0_joy_33
  · have hf := o_f hf c1
    refine lv_aload_n hx hb dX0_joy_5 rfl (lv_at hl 0 rfl) ?_
    refine lv_iload_n hx hb dX0_joy_6 rfl (lv_at hl 1 rfl) ?_
    obtain ⟨r4, hc4, hf⟩ := o_b1s hf
    have hp4 : List.Perm [xW g adX (adN 0) (adT 0) iX X, vW g adN N, gW L kd nu aa] ([xW g adX (adN 0) (adT 0) iX X, vW g adN N] ++ [gW L kd nu aa]) := b_perm [0, 1] [2] 3 rfl rfl rfl rfl
    refine b_call0 ⟨rfl, rfl⟩ (va_runV (As := [.int x1]) (rest := []) ⟨hx, hb, hml, hown, hts⟩ (m_X0_isGoer l D g H.size adX iX adN adT X N x1 r4 hc4) (cwV 1 hts (lw_V q485 q487 qs4 q76 q488) rfl rfl rfl (by decide +kernel) ⟨Nat.le_of_ble_eq_true rfl, Nat.le_of_ble_eq_true rfl⟩) (b_preV (pp := 0) (q := 0) hW hp4 rfl xW_0 rfl) rfl rfl hl.1 rfl (lv_room (Nat.le_of_ble_eq_true rfl)) dX0_joy_7 ⟨Nat.le_of_ble_eq_true rfl, Nat.le_of_ble_eq_true rfl⟩) hW hp4 (fun _ _ H locs hW => ?_)
    have hW : bW D g A s H locs [xW g adX (adN 0) (adT 0) iX X, vW g adN N, gW L kd nu aa] := hW
    refine lv_if_eq (tgt := 27) hx hb dX0_joy_10 (by decide) (fun c5 => ?_) (fun c5 => ?_)
    · have hf := o_t hf c5
      refine lv_aload_n hx hb dX0_joy_27 rfl (lv_at hl 0 rfl) ?_
      refine lv_bipush (v := (-2)) hx hb dX0_joy_28 (by decide) ?_
      obtain ⟨r6, X7, hc7, hf⟩ := o_b2s hf
      have hp7 : List.Perm [xW g adX (adN 0) (adT 0) iX X, vW g adN N, gW L kd nu aa] ([xW g adX (adN 0) (adT 0) iX X] ++ [vW g adN N, gW L kd nu aa]) := b_perm [0] [1, 2] 3 rfl rfl rfl rfl
      refine b_call0 ⟨rfl, rfl⟩ (va_runV (As := [.int (-2)]) (rest := []) ⟨hx, hb, hml, hown, hts⟩ (m_X0_noLow l D g H.size adX iX adN adT X (-2) r6 X7 hc7) (cwV 1 hts (lw_V q1126 q1128 qs18 q76 q1129) rfl rfl rfl (by decide +kernel) ⟨Nat.le_of_ble_eq_true rfl, Nat.le_of_ble_eq_true rfl⟩) (b_preV (pp := 0) (q := 0) hW hp7 rfl xW_0 rfl) rfl rfl hl.1 rfl (lv_room (Nat.le_of_ble_eq_true rfl)) dX0_joy_30 ⟨Nat.le_of_ble_eq_true rfl, Nat.le_of_ble_eq_true rfl⟩) hW hp7 (fun _ _ H locs hW => ?_)
      have hW : bW D g A s H locs [xW g adX (adN 0) (adT 0) iX X7, vW g adN N, gW L kd nu aa] := hW
      cases hf
      exact b_iret hx hb hr hlk hE hW () rfl trivial rfl dX0_joy_33
    · have hf := o_f hf c5
      refine lv_aload_n hx hb dX0_joy_13 rfl (lv_at hl 0 rfl) ?_
      refine b_get hx hb hts in_X0 hown hW 0 0 0 0 rfl xW_0 rfl (by decide) ⟨rfl, rfl, rfl⟩ (hts _ q227) xW_g0 dX0_joy_14 ?_
      obtain ⟨N8, hc8, hf⟩ := o_b1s hf
      have hp8 : List.Perm [xW g adX (adN 0) (adT 0) iX X, vW g adN N, gW L kd nu aa] ([vW g adN N, gW L kd nu aa] ++ [xW g adX (adN 0) (adT 0) iX X]) := b_perm [1, 2] [0] 3 rfl rfl rfl rfl
      refine b_call0 ⟨rfl, rfl⟩ (va_runV (As := []) (rest := []) ⟨hx, hb, hml, hown, hts⟩ (m_X1_night l D g H.size adN fu N L kd nu aa N8 hc8) (cwV 0 hts (lw_V q1135 q1136 q1137 q77 q1138) rfl rfl rfl (by decide +kernel) ⟨Nat.le_of_ble_eq_true rfl, Nat.le_of_ble_eq_true rfl⟩) (b_preV (pp := 1) (q := 0) hW hp8 rfl vW_0 rfl) rfl rfl hl.1 rfl (lv_room (Nat.le_of_ble_eq_true rfl)) dX0_joy_17 ⟨Nat.le_of_ble_eq_true rfl, Nat.le_of_ble_eq_true rfl⟩) hW hp8 (fun _ _ H locs hW => ?_)
      have hW : bW D g A s H locs [vW g adN N8, gW L kd nu aa, xW g adX (adN 0) (adT 0) iX X] := hW
      refine lv_iload_n hx hb dX0_joy_20 rfl (lv_at hl 1 rfl) ?_
      obtain ⟨r9, hc9, hf⟩ := o_b1s hf
      have hp9 : List.Perm [vW g adN N8, gW L kd nu aa, xW g adX (adN 0) (adT 0) iX X] ([vW g adN N8] ++ [gW L kd nu aa, xW g adX (adN 0) (adT 0) iX X]) := b_perm [0] [1, 2] 3 rfl rfl rfl rfl
      refine b_call0 ⟨rfl, rfl⟩ (va_runV (As := [.int x1]) (rest := []) ⟨hx, hb, hml, hown, hts⟩ (m_X1_joy l D g H.size adN fu N8 x1 r9 hc9) (cwV 1 hts (lw_V q1188 q1189 q1190 q77 q1191) rfl rfl rfl (by decide +kernel) ⟨Nat.le_of_ble_eq_true rfl, Nat.le_of_ble_eq_true rfl⟩) (b_preV (pp := 0) (q := 0) hW hp9 rfl vW_0 rfl) rfl rfl hl.1 rfl (lv_room (Nat.le_of_ble_eq_true rfl)) dX0_joy_21 ⟨Nat.le_of_ble_eq_true rfl, Nat.le_of_ble_eq_true rfl⟩) hW hp9 (fun _ _ H locs hW => ?_)
      have hW : bW D g A s H locs [vW g adN N8, gW L kd nu aa, xW g adX (adN 0) (adT 0) iX X] := hW
      refine lv_goto (tgt := 33) hx hb dX0_joy_24 (by decide) ?_
      cases hf
      exact b_iret hx hb hr hlk hE (b_perms hW (b_ord [2, 0, 1] 3 rfl rfl rfl)) () rfl trivial rfl dX0_joy_33
def f_X0_taken (fu : Nat) (X : BC) (N : BC) (L : List Nat) (kd : Nat → Nat) (nu : Nat → Int32) (aa : Nat → Int32) (x1 : Int32) : Option (Int32 × BC × BC) :=
 o_b1 (f_X1_isInn N x1) fun (r1 : Int32) =>
 (if r1 = 0 then
 o_b2 (f_X0_no X (-2)) fun (r3 : Int32) (X4 : BC) =>
 some (r3, X4, N)
 else
 o_b1 (f_X1_night fu N L kd nu aa) fun (N5 : BC) =>
 o_ck (inB x1 6) (some ((N5.1 17 (ix x1)) * (N5.1 4 (ix x1)), X, N5)))
abbrev rm_X0_taken : Room := { frames := 7, cells := 0, slots := 0, locals := 164 }
set_option maxHeartbeats 4000000 in
set_option maxRecDepth 100000 in
theorem m_X0_taken (l : Launch) (D : va_G) (g : Nat → ClassId) (sz : Nat) (adX : Nat → Nat) (iX : Option Nat) (adN : Nat → Nat) (adT : Nat → Nat) (fu : Nat) (X : BC) (N : BC) (L : List Nat) (kd : Nat → Nat) (nu : Nat → Int32) (aa : Nat → Int32) (x1 : Int32) (rO : Int32) (XO : BC) (NO : BC) (hf : f_X0_taken fu X N L kd nu aa x1 = some (rO, XO, NO)) : bMet (S := Unit) l yX0_taken (ws_ yX0_taken cX0_taken 2 (some .int)) rm_X0_taken D g sz [.ref (adX 0), .int x1] [xW g adX (adN 0) (adT 0) iX X, vW g adN N, gW L kd nu aa] (fun _ => True) (fun _ => some (.int rO)) (fun _ => [xW g adX (adN 0) (adT 0) iX XO, vW g adN NO, gW L kd nu aa]) := by
  refine b_met (by decide) (Nat.le_of_ble_eq_true rfl) ?_
  intro p e s m args below meth c A Q ls hx hb hml hr hlk hown hname hts hE hl hW
  revert hW; generalize s.heap = H; intro hW
  have hl : lv_has ls 2 [(0, .ref (adX 0)), (1, .int x1)] := hl
  rw [f_X0_taken] at hf
  refine lv_aload_n hx hb dX0_taken_0 rfl (lv_at hl 0 rfl) ?_
  refine b_get hx hb hts in_X0 hown hW 0 0 0 0 rfl xW_0 rfl (by decide) ⟨rfl, rfl, rfl⟩ (hts _ q227) xW_g0 dX0_taken_1 ?_
  refine lv_iload_n hx hb dX0_taken_4 rfl (lv_at hl 1 rfl) ?_
  obtain ⟨r1, hc1, hf⟩ := o_b1s hf
  have hp1 : List.Perm [xW g adX (adN 0) (adT 0) iX X, vW g adN N, gW L kd nu aa] ([vW g adN N] ++ [xW g adX (adN 0) (adT 0) iX X, gW L kd nu aa]) := b_perm [1] [0, 2] 3 rfl rfl rfl rfl
  refine b_call0 ⟨rfl, rfl⟩ (va_runV (As := [.int x1]) (rest := []) ⟨hx, hb, hml, hown, hts⟩ (m_X1_isInn l D g H.size adN N x1 r1 hc1) (cwV 1 hts (lw_V q672 q673 q674 q77 q675) rfl rfl rfl (by decide +kernel) ⟨Nat.le_of_ble_eq_true rfl, Nat.le_of_ble_eq_true rfl⟩) (b_preV (pp := 1) (q := 0) hW hp1 rfl vW_0 rfl) rfl rfl hl.1 rfl (lv_room (Nat.le_of_ble_eq_true rfl)) dX0_taken_5 ⟨Nat.le_of_ble_eq_true rfl, Nat.le_of_ble_eq_true rfl⟩) hW hp1 (fun _ _ H locs hW => ?_)
  have hW : bW D g A s H locs [vW g adN N, xW g adX (adN 0) (adT 0) iX X, gW L kd nu aa] := hW
  refine lv_if_eq (tgt := 36) hx hb dX0_taken_8 (by decide) (fun c2 => ?_) (fun c2 => ?_)
  · have hf := o_t hf c2
    refine lv_aload_n hx hb dX0_taken_36 rfl (lv_at hl 0 rfl) ?_
    refine lv_bipush (v := (-2)) hx hb dX0_taken_37 (by decide) ?_
    obtain ⟨r3, X4, hc4, hf⟩ := o_b2s hf
    have hp4 : List.Perm [vW g adN N, xW g adX (adN 0) (adT 0) iX X, gW L kd nu aa] ([xW g adX (adN 0) (adT 0) iX X] ++ [vW g adN N, gW L kd nu aa]) := b_perm [1] [0, 2] 3 rfl rfl rfl rfl
    refine b_call0 ⟨rfl, rfl⟩ (va_runV (As := [.int (-2)]) (rest := []) ⟨hx, hb, hml, hown, hts⟩ (m_X0_no l D g H.size adX iX adN adT X (-2) r3 X4 hc4) (cwV 1 hts (lw_V q347 q349 qs2 q76 q350) rfl rfl rfl (by decide +kernel) ⟨Nat.le_of_ble_eq_true rfl, Nat.le_of_ble_eq_true rfl⟩) (b_preV (pp := 1) (q := 0) hW hp4 rfl xW_0 rfl) rfl rfl hl.1 rfl (lv_room (Nat.le_of_ble_eq_true rfl)) dX0_taken_39 ⟨Nat.le_of_ble_eq_true rfl, Nat.le_of_ble_eq_true rfl⟩) hW hp4 (fun _ _ H locs hW => ?_)
    have hW : bW D g A s H locs [xW g adX (adN 0) (adT 0) iX X4, vW g adN N, gW L kd nu aa] := hW
    cases hf
    exact b_iret hx hb hr hlk hE hW () rfl trivial rfl dX0_taken_42
  · have hf := o_f hf c2
    refine lv_aload_n hx hb dX0_taken_11 rfl (lv_at hl 0 rfl) ?_
    refine b_get hx hb hts in_X0 hown hW 1 0 0 0 rfl xW_0 rfl (by decide) ⟨rfl, rfl, rfl⟩ (hts _ q227) xW_g0 dX0_taken_12 ?_
    obtain ⟨N5, hc5, hf⟩ := o_b1s hf
    have hp5 : List.Perm [vW g adN N, xW g adX (adN 0) (adT 0) iX X, gW L kd nu aa] ([vW g adN N, gW L kd nu aa] ++ [xW g adX (adN 0) (adT 0) iX X]) := b_perm [0, 2] [1] 3 rfl rfl rfl rfl
    refine b_call0 ⟨rfl, rfl⟩ (va_runV (As := []) (rest := []) ⟨hx, hb, hml, hown, hts⟩ (m_X1_night l D g H.size adN fu N L kd nu aa N5 hc5) (cwV 0 hts (lw_V q1135 q1136 q1137 q77 q1138) rfl rfl rfl (by decide +kernel) ⟨Nat.le_of_ble_eq_true rfl, Nat.le_of_ble_eq_true rfl⟩) (b_preV (pp := 0) (q := 0) hW hp5 rfl vW_0 rfl) rfl rfl hl.1 rfl (lv_room (Nat.le_of_ble_eq_true rfl)) dX0_taken_15 ⟨Nat.le_of_ble_eq_true rfl, Nat.le_of_ble_eq_true rfl⟩) hW hp5 (fun _ _ H locs hW => ?_)
    have hW : bW D g A s H locs [vW g adN N5, gW L kd nu aa, xW g adX (adN 0) (adT 0) iX X] := hW
    refine b_get hx hb hts in_X1 hown hW 0 0 1 10 rfl vW_0 rfl (by decide) ⟨rfl, rfl, rfl⟩ (hts _ q160) vW_g10 dX0_taken_18 ?_
    refine lv_iload_n hx hb dX0_taken_21 rfl (lv_at hl 1 rfl) ?_
    obtain ⟨h6, hf⟩ := o_cs hf
    refine b_iald hx hb hW 0 17 rfl vW_17 h6 dX0_taken_22 ?_
    refine lv_aload_n hx hb dX0_taken_23 rfl (lv_at hl 0 rfl) ?_
    refine b_get hx hb hts in_X0 hown hW 2 0 0 0 rfl xW_0 rfl (by decide) ⟨rfl, rfl, rfl⟩ (hts _ q227) xW_g0 dX0_taken_24 ?_
    refine b_get hx hb hts in_X1 hown hW 0 0 1 3 rfl vW_0 rfl (by decide) ⟨rfl, rfl, rfl⟩ (hts _ q139) vW_g3 dX0_taken_27 ?_
    refine lv_iload_n hx hb dX0_taken_30 rfl (lv_at hl 1 rfl) ?_
    refine b_iald hx hb hW 0 4 rfl vW_4 h6 dX0_taken_31 ?_
    refine lv_imul hx hb dX0_taken_32 ?_
    refine lv_goto (tgt := 42) hx hb dX0_taken_33 (by decide) ?_
    cases hf
    exact b_iret hx hb hr hlk hE (b_perms hW (b_ord [2, 0, 1] 3 rfl rfl rfl)) () rfl trivial rfl dX0_taken_42
def f_X0_crowd_L22 (X : BC) (N : BC) (L : List Nat) (kd : Nat → Nat) (nu : Nat → Int32) (aa : Nat → Int32) (x1 : Int32) (fu : Nat) (rec3 : (Int32 × Int32) → Option (Int32 × BC)) : Int32 × Int32 → Option (Int32 × BC)
  | (v4, v5) =>
    (if (N.1 0 1) ≤ v5 then
     some (v4, X)
     else
     o_ck (inB v5 6) (o_op (N.2.1 8 (ix v5)) none fun (a8 : Nat) => o_ck (gIn L kd a8) (o_lt ((if gBk (kd a8) = true then 1 else 0)) fun (v10 : Int32) =>
     (if v10 = 0 then
     o_lt (v4 + 0) fun (v12 : Int32) =>
     o_lt (v5 + 1) fun (v13 : Int32) =>
     rec3 (v12, v13)
     else
     o_op (N.2.1 8 (ix v5)) none fun (a14 : Nat) => o_ck (gIn L kd a14) (o_b1 (f_X0_first fu X N L kd nu aa a14) fun (r16 : Int32) =>
     (if r16 = x1 then
     o_lt (v4 + (N.1 9 (ix v5))) fun (v20 : Int32) =>
     o_lt (v5 + 1) fun (v21 : Int32) =>
     rec3 (v20, v21)
     else
     o_lt (v4 + 0) fun (v18 : Int32) =>
     o_lt (v5 + 1) fun (v19 : Int32) =>
     rec3 (v18, v19)))))))
def f_X0_crowd (fu : Nat) (X : BC) (N : BC) (T : BC) (L : List Nat) (kd : Nat → Nat) (nu : Nat → Int32) (aa : Nat → Int32) (x1 : Int32) : Option (Int32 × BC) :=
 o_b1 (f_X1_isInn N x1) fun (r1 : Int32) =>
 (if r1 = 0 then
 o_b2 (f_X0_no X (-2)) fun (r22 : Int32) (X23 : BC) =>
 some (r22, X23)
 else
 o_lp (f_X0_crowd_L22 X N L kd nu aa x1 fu) fu (0, 0))
abbrev rm_X0_crowd : Room := { frames := 6, cells := 0, slots := 0, locals := 138 }
set_option maxHeartbeats 4000000 in
set_option maxRecDepth 100000 in
theorem m_X0_crowd (l : Launch) (D : va_G) (g : Nat → ClassId) (sz : Nat) (adX : Nat → Nat) (iX : Option Nat) (adN : Nat → Nat) (adT : Nat → Nat) (fu : Nat) (X : BC) (N : BC) (T : BC) (L : List Nat) (kd : Nat → Nat) (nu : Nat → Int32) (aa : Nat → Int32) (x1 : Int32) (rO : Int32) (XO : BC) (hf : f_X0_crowd fu X N T L kd nu aa x1 = some (rO, XO)) : bMet (S := Unit) l yX0_crowd (ws_ yX0_crowd cX0_crowd 4 (some .int)) rm_X0_crowd D g sz [.ref (adX 0), .int x1] [xW g adX (adN 0) (adT 0) iX X, vW g adN N, vW g adT T, gW L kd nu aa] (fun _ => True) (fun _ => some (.int rO)) (fun _ => [xW g adX (adN 0) (adT 0) iX XO, vW g adN N, vW g adT T, gW L kd nu aa]) := by
  refine b_met (by decide) (Nat.le_of_ble_eq_true rfl) ?_
  intro p e s m args below meth c A Q ls hx hb hml hr hlk hown hname hts hE hl hW
  revert hW; generalize s.heap = H; intro hW
  have hl : lv_has ls 4 [(0, .ref (adX 0)), (1, .int x1)] := hl
  rw [f_X0_crowd] at hf
  refine lv_aload_n hx hb dX0_crowd_0 rfl (lv_at hl 0 rfl) ?_
  refine b_get hx hb hts in_X0 hown hW 0 0 0 0 rfl xW_0 rfl (by decide) ⟨rfl, rfl, rfl⟩ (hts _ q227) xW_g0 dX0_crowd_1 ?_
  refine lv_iload_n hx hb dX0_crowd_4 rfl (lv_at hl 1 rfl) ?_
  obtain ⟨r1, hc1, hf⟩ := o_b1s hf
  have hp1 : List.Perm [xW g adX (adN 0) (adT 0) iX X, vW g adN N, vW g adT T, gW L kd nu aa] ([vW g adN N] ++ [xW g adX (adN 0) (adT 0) iX X, vW g adT T, gW L kd nu aa]) := b_perm [1] [0, 2, 3] 4 rfl rfl rfl rfl
  refine b_call0 ⟨rfl, rfl⟩ (va_runV (As := [.int x1]) (rest := []) ⟨hx, hb, hml, hown, hts⟩ (m_X1_isInn l D g H.size adN N x1 r1 hc1) (cwV 1 hts (lw_V q672 q673 q674 q77 q675) rfl rfl rfl (by decide +kernel) ⟨Nat.le_of_ble_eq_true rfl, Nat.le_of_ble_eq_true rfl⟩) (b_preV (pp := 1) (q := 0) hW hp1 rfl vW_0 rfl) rfl rfl hl.1 rfl (lv_room (Nat.le_of_ble_eq_true rfl)) dX0_crowd_5 ⟨Nat.le_of_ble_eq_true rfl, Nat.le_of_ble_eq_true rfl⟩) hW hp1 (fun _ _ H locs hW => ?_)
  have hW : bW D g A s H locs [vW g adN N, xW g adX (adN 0) (adT 0) iX X, vW g adT T, gW L kd nu aa] := hW
  refine lv_if_ne (tgt := 18) hx hb dX0_crowd_8 (by decide) (fun c2 => ?_) (fun c2 => ?_)
  · have hf := o_f hf c2
    refine lv_iconst (v := 0) hx hb dX0_crowd_18 (by decide) ?_
    refine lv_istore_n (lv' := [(2, .int 0), (0, .ref (adX 0)), (1, .int x1)]) hx hb dX0_crowd_19 rfl hl (by decide) rfl (fun ls hl => ?_)
    refine lv_iconst (v := 0) hx hb dX0_crowd_20 (by decide) ?_
    refine lv_istore_n (lv' := [(3, .int 0), (2, .int 0), (0, .ref (adX 0)), (1, .int x1)]) hx hb dX0_crowd_21 rfl hl (by decide) rfl (fun ls hl => ?_)
    obtain ⟨stp3, est3, hf⟩ := o_ln hf
    have L3 : ∀ (n : Nat) (v4 : Int32) (v5 : Int32) (H : Heap) (locs : List Loc) (ls : Array Slot), bW D g A s H locs [vW g adN N, xW g adX (adN 0) (adT 0) iX X, vW g adT T, gW L kd nu aa] → lv_has ls 4 [(3, .int v5), (2, .int v4), (0, .ref (adX 0)), (1, .int x1)] → o_lp stp3 n (v4, v5) = some (rO, XO) → W p l e rm_X0_crowd s m args below meth c H locs 0 0 Q (F0 m 22 ls []) := by
      intro n3
      induction n3 with
      | zero => intro v4 v5 H locs ls hW hl hf; exact (o_lz hf).elim
      | succ n3 ih3 =>
        intro v4 v5 H locs ls hW hl hf
        have hf := o_lu est3 hf
        rw [f_X0_crowd_L22] at hf
        refine lv_iload_n hx hb dX0_crowd_22 rfl (lv_at hl 0 rfl) ?_
        refine lv_aload_n hx hb dX0_crowd_23 rfl (lv_at hl 2 rfl) ?_
        refine b_get hx hb hts in_X0 hown hW 1 0 0 0 rfl xW_0 rfl (by decide) ⟨rfl, rfl, rfl⟩ (hts _ q227) xW_g0 dX0_crowd_24 ?_
        refine b_get hx hb hts in_X1 hown hW 0 0 1 13 rfl vW_0 rfl (by decide) ⟨rfl, rfl, rfl⟩ (hts _ q170) vW_g13 dX0_crowd_27 ?_
        refine lv_icmp_ge (tgt := 87) hx hb dX0_crowd_30 (by decide) (fun c6 => ?_) (fun c6 => ?_)
        · have hf := o_t hf c6
          refine lv_iload_n hx hb dX0_crowd_87 rfl (lv_at hl 1 rfl) ?_
          cases hf
          exact b_iret hx hb hr hlk hE (b_perms hW (b_ord [1, 0, 2, 3] 4 rfl rfl rfl)) () rfl trivial rfl dX0_crowd_88
        · have hf := o_f hf c6
          refine lv_iload_n hx hb dX0_crowd_33 rfl (lv_at hl 1 rfl) ?_
          refine lv_aload_n hx hb dX0_crowd_34 rfl (lv_at hl 2 rfl) ?_
          refine b_get hx hb hts in_X0 hown hW 1 0 0 0 rfl xW_0 rfl (by decide) ⟨rfl, rfl, rfl⟩ (hts _ q227) xW_g0 dX0_crowd_35 ?_
          refine b_get hx hb hts in_X1 hown hW 0 0 1 7 rfl vW_0 rfl (by decide) ⟨rfl, rfl, rfl⟩ (hts _ q154) vW_g7 dX0_crowd_38 ?_
          refine lv_iload_n hx hb dX0_crowd_41 rfl (lv_at hl 0 rfl) ?_
          obtain ⟨h7, hf⟩ := o_cs hf
          refine b_aald hx hb hW 0 8 5 rfl vW_8 rfl h7 dX0_crowd_42 ?_
          refine b_split (fun hrf => by cases (o_opn hf hrf)) (fun a8 hrf => ?_)
          have hf := o_ops hf hrf
          obtain ⟨h9, hf⟩ := o_cs hf
          refine b_instG hx hb hown (hts _ q507) hW 3 rfl h9 gBk g_tbB dX0_crowd_43 ?_
          obtain ⟨v10, ev10, hf⟩ := o_ls hf
          refine b_topi ev10 ?_
          refine lv_if_eq (tgt := 78) hx hb dX0_crowd_46 (by decide) (fun c11 => ?_) (fun c11 => ?_)
          · have hf := o_t hf c11
            refine lv_iconst (v := 0) hx hb dX0_crowd_78 (by decide) ?_
            refine lv_iadd hx hb dX0_crowd_79 ?_
            obtain ⟨v12, ev12, hf⟩ := o_ls hf
            refine b_topi ev12 ?_
            refine lv_istore_n (lv' := [(2, .int v12), (3, .int v5), (0, .ref (adX 0)), (1, .int x1)]) hx hb dX0_crowd_80 rfl hl (by decide) rfl (fun ls hl => ?_)
            obtain ⟨v13, ev13, hf⟩ := o_ls hf
            refine lv_iinc (v := v13) (lv' := [(3, .int v13), (2, .int v12), (0, .ref (adX 0)), (1, .int x1)]) hx hb dX0_crowd_81 hl (k := 1) rfl ev13 (by decide) rfl (fun ls hl => ?_)
            refine lv_goto (tgt := 22) hx hb dX0_crowd_84 (by decide) ?_
            exact ih3 _ _ _ _ _ hW (lv_sub hl [0, 1, 2, 3] rfl) hf
          · have hf := o_f hf c11
            refine lv_aload_n hx hb dX0_crowd_49 rfl (lv_at hl 2 rfl) ?_
            refine lv_aload_n hx hb dX0_crowd_50 rfl (lv_at hl 2 rfl) ?_
            refine b_get hx hb hts in_X0 hown hW 1 0 0 0 rfl xW_0 rfl (by decide) ⟨rfl, rfl, rfl⟩ (hts _ q227) xW_g0 dX0_crowd_51 ?_
            refine b_get hx hb hts in_X1 hown hW 0 0 1 7 rfl vW_0 rfl (by decide) ⟨rfl, rfl, rfl⟩ (hts _ q154) vW_g7 dX0_crowd_54 ?_
            refine lv_iload_n hx hb dX0_crowd_57 rfl (lv_at hl 0 rfl) ?_
            refine b_aald hx hb hW 0 8 5 rfl vW_8 rfl h7 dX0_crowd_58 ?_
            refine b_split (fun hrf => by cases (o_opn hf hrf)) (fun a14 hrf => ?_)
            have hf := o_ops hf hrf
            obtain ⟨h15, hf⟩ := o_cs hf
            obtain ⟨r16, hc16, hf⟩ := o_b1s hf
            have hp16 : List.Perm [vW g adN N, xW g adX (adN 0) (adT 0) iX X, vW g adT T, gW L kd nu aa] ([xW g adX (adN 0) (adT 0) iX X, vW g adN N, gW L kd nu aa] ++ [vW g adT T]) := b_perm [1, 0, 3] [2] 4 rfl rfl rfl rfl
            refine b_call0 ⟨rfl, rfl⟩ (va_runV (As := [.ref a14]) (rest := [.int v4]) ⟨hx, hb, hml, hown, hts⟩ (m_X0_first l D g H.size adX iX adN adT fu X N L kd nu aa a14 r16 hc16) (cwV 1 hts (lw_V q508 q510 qs5 q76 q511) rfl rfl rfl (by decide +kernel) ⟨Nat.le_of_ble_eq_true rfl, Nat.le_of_ble_eq_true rfl⟩) (b_preV (pp := 1) (q := 0) hW hp16 rfl xW_0 rfl) rfl rfl hl.1 rfl (lv_room (Nat.le_of_ble_eq_true rfl)) dX0_crowd_59 ⟨Nat.le_of_ble_eq_true rfl, Nat.le_of_ble_eq_true rfl⟩) hW hp16 (fun _ _ H locs hW => ?_)
            have hW : bW D g A s H locs [xW g adX (adN 0) (adT 0) iX X, vW g adN N, gW L kd nu aa, vW g adT T] := hW
            refine lv_iload_n hx hb dX0_crowd_62 rfl (lv_at hl 3 rfl) ?_
            refine lv_icmp_ne (tgt := 78) hx hb dX0_crowd_63 (by decide) (fun c17 => ?_) (fun c17 => ?_)
            · have hf := o_f hf c17
              refine lv_iconst (v := 0) hx hb dX0_crowd_78 (by decide) ?_
              refine lv_iadd hx hb dX0_crowd_79 ?_
              obtain ⟨v18, ev18, hf⟩ := o_ls hf
              refine b_topi ev18 ?_
              refine lv_istore_n (lv' := [(2, .int v18), (3, .int v5), (0, .ref (adX 0)), (1, .int x1)]) hx hb dX0_crowd_80 rfl hl (by decide) rfl (fun ls hl => ?_)
              obtain ⟨v19, ev19, hf⟩ := o_ls hf
              refine lv_iinc (v := v19) (lv' := [(3, .int v19), (2, .int v18), (0, .ref (adX 0)), (1, .int x1)]) hx hb dX0_crowd_81 hl (k := 1) rfl ev19 (by decide) rfl (fun ls hl => ?_)
              refine lv_goto (tgt := 22) hx hb dX0_crowd_84 (by decide) ?_
              exact ih3 _ _ _ _ _ (b_perms hW (b_ord [1, 0, 3, 2] 4 rfl rfl rfl)) (lv_sub hl [0, 1, 2, 3] rfl) hf
            · have hf := o_t hf c17
              refine lv_aload_n hx hb dX0_crowd_66 rfl (lv_at hl 2 rfl) ?_
              refine b_get hx hb hts in_X0 hown hW 0 0 0 0 rfl xW_0 rfl (by decide) ⟨rfl, rfl, rfl⟩ (hts _ q227) xW_g0 dX0_crowd_67 ?_
              refine b_get hx hb hts in_X1 hown hW 1 0 1 8 rfl vW_0 rfl (by decide) ⟨rfl, rfl, rfl⟩ (hts _ q156) vW_g8 dX0_crowd_70 ?_
              refine lv_iload_n hx hb dX0_crowd_73 rfl (lv_at hl 0 rfl) ?_
              refine b_iald hx hb hW 1 9 rfl vW_9 h7 dX0_crowd_74 ?_
              refine lv_goto (tgt := 79) hx hb dX0_crowd_75 (by decide) ?_
              refine lv_iadd hx hb dX0_crowd_79 ?_
              obtain ⟨v20, ev20, hf⟩ := o_ls hf
              refine b_topi ev20 ?_
              refine lv_istore_n (lv' := [(2, .int v20), (3, .int v5), (0, .ref (adX 0)), (1, .int x1)]) hx hb dX0_crowd_80 rfl hl (by decide) rfl (fun ls hl => ?_)
              obtain ⟨v21, ev21, hf⟩ := o_ls hf
              refine lv_iinc (v := v21) (lv' := [(3, .int v21), (2, .int v20), (0, .ref (adX 0)), (1, .int x1)]) hx hb dX0_crowd_81 hl (k := 1) rfl ev21 (by decide) rfl (fun ls hl => ?_)
              refine lv_goto (tgt := 22) hx hb dX0_crowd_84 (by decide) ?_
              exact ih3 _ _ _ _ _ (b_perms hW (b_ord [1, 0, 3, 2] 4 rfl rfl rfl)) (lv_sub hl [0, 1, 2, 3] rfl) hf
    exact L3 _ _ _ _ _ _ hW (lv_sub hl [0, 1, 2, 3] rfl) hf
  · have hf := o_t hf c2
    refine lv_aload_n hx hb dX0_crowd_11 rfl (lv_at hl 0 rfl) ?_
    refine lv_bipush (v := (-2)) hx hb dX0_crowd_12 (by decide) ?_
    obtain ⟨r22, X23, hc23, hf⟩ := o_b2s hf
    have hp23 : List.Perm [vW g adN N, xW g adX (adN 0) (adT 0) iX X, vW g adT T, gW L kd nu aa] ([xW g adX (adN 0) (adT 0) iX X] ++ [vW g adN N, vW g adT T, gW L kd nu aa]) := b_perm [1] [0, 2, 3] 4 rfl rfl rfl rfl
    refine b_call0 ⟨rfl, rfl⟩ (va_runV (As := [.int (-2)]) (rest := []) ⟨hx, hb, hml, hown, hts⟩ (m_X0_no l D g H.size adX iX adN adT X (-2) r22 X23 hc23) (cwV 1 hts (lw_V q347 q349 qs2 q76 q350) rfl rfl rfl (by decide +kernel) ⟨Nat.le_of_ble_eq_true rfl, Nat.le_of_ble_eq_true rfl⟩) (b_preV (pp := 1) (q := 0) hW hp23 rfl xW_0 rfl) rfl rfl hl.1 rfl (lv_room (Nat.le_of_ble_eq_true rfl)) dX0_crowd_14 ⟨Nat.le_of_ble_eq_true rfl, Nat.le_of_ble_eq_true rfl⟩) hW hp23 (fun _ _ H locs hW => ?_)
    have hW : bW D g A s H locs [xW g adX (adN 0) (adT 0) iX X23, vW g adN N, vW g adT T, gW L kd nu aa] := hW
    cases hf
    exact b_iret hx hb hr hlk hE hW () rfl trivial rfl dX0_crowd_17
