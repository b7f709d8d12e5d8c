/-! Valley: methods without goers: printed by gen/all.py -/
set_option maxRecDepth 100000
def f_X1_isInn (V : BC) (x1 : Int32) : Option Int32 :=
 o_b1 (f_X0_isIn x1 0 ((V.1 0 0) - 1)) fun (r1 : Int32) =>
 o_ck (decide (r1 = 0) || decide (r1 = 1)) (some r1)
abbrev rm_X1_isInn : Room := { frames := 1, cells := 0, slots := 0, locals := 22 }
set_option maxHeartbeats 4000000 in
set_option maxRecDepth 100000 in
theorem m_X1_isInn (l : Launch) (D : va_G) (g : Nat → ClassId) (sz : Nat) (adV : Nat → Nat) (V : BC) (x1 : Int32) (rO : Int32) (hf : f_X1_isInn V x1 = some rO) : bMet (S := Unit) l yX1_isInn (ws_ yX1_isInn cX1_isInn 2 (some .boolean)) rm_X1_isInn D g sz [.ref (adV 0), .int x1] [vW g adV V] (fun _ => True) (fun _ => some (.int rO)) (fun _ => [vW g adV V]) := by
  refine b_met (by decide) (Nat.le_of_ble_eq_true rfl) ?_
  intro p e s m args below meth c A Q ls hx hb hml hr hlk hown hname hts hE hl hW
  revert hW; generalize s.heap = H; intro hW
  have hl : lv_has ls 2 [(0, .ref (adV 0)), (1, .int x1)] := hl
  rw [f_X1_isInn] at hf
  refine lv_iload_n hx hb dX1_isInn_0 rfl (lv_at hl 1 rfl) ?_
  refine lv_iconst (v := 0) hx hb dX1_isInn_1 (by decide) ?_
  refine lv_aload_n hx hb dX1_isInn_2 rfl (lv_at hl 0 rfl) ?_
  refine b_get hx hb hts in_X1 hown hW 0 0 1 12 rfl vW_0 rfl (by decide) ⟨rfl, rfl, rfl⟩ (hts _ q165) vW_g12 dX1_isInn_3 ?_
  refine lv_iconst (v := 1) hx hb dX1_isInn_6 (by decide) ?_
  refine lv_isub hx hb dX1_isInn_7 ?_
  obtain ⟨r1, hc1, hf⟩ := o_b1s hf
  have hp1 : List.Perm [vW g adV V] ([] ++ [vW g adV V]) := b_perm [] [0] 1 rfl rfl rfl rfl
  refine b_call0 ⟨rfl, rfl⟩ (va_runSN (As := [.int x1, .int 0, .int ((V.1 0 0) - 1)]) (rest := []) ⟨hx, hb, hml, hown, hts⟩ (m_X0_isIn l D g H.size x1 0 ((V.1 0 0) - 1) r1 hc1) ⟨va_cnB 3 hts (lw_meth q346) rfl rfl rfl (hW.2.2.2.2.2.1 _ (List.mem_of_getElem? (i := 3) rfl)) (hts _ q76) (by decide +kernel) ⟨Nat.le_of_ble_eq_true rfl, Nat.le_of_ble_eq_true rfl⟩, hts _ q345, trivial⟩ (b_preS hW hp1) rfl rfl hl.1 rfl (lv_room (Nat.le_of_ble_eq_true rfl)) dX1_isInn_8 ⟨Nat.le_of_ble_eq_true rfl, Nat.le_of_ble_eq_true rfl⟩) hW hp1 (fun _ _ H locs hW => ?_)
  have hW : bW D g A s H locs [vW g adV V] := hW
  obtain ⟨h2, hf⟩ := o_cs hf
  cases hf
  exact b_zret hx hb hr hlk hE hW () rfl trivial rfl h2 dX1_isInn_11
def f_X1_writes_L2 (x1 : Int32) (rec1 : (Int32 × BC) → Option BC) : Int32 × BC → Option BC
  | (v2, V3) =>
    (if (V3.1 0 0) ≤ v2 then
     o_lt (bI V3 0 (upd (V3.1 0) 2 0)) fun (V5 : BC) =>
     some V5
     else
     o_b1 (f_X0_has x1 v2) fun (r6 : Int32) =>
     (if r6 = 0 then
     o_ck (inB v2 6) (o_lt (bI V3 5 (upd (V3.1 5) (ix v2) (-1))) fun (V9 : BC) =>
     o_lt (v2 + 1) fun (v10 : Int32) =>
     rec1 (v10, V9))
     else
     o_ck (inB v2 6) (o_lt (V3.1 1 (ix v2)) fun (v12 : Int32) =>
     o_lt (bI V3 5 (upd (V3.1 5) (ix v2) v12)) fun (V13 : BC) =>
     o_lt (v2 + 1) fun (v14 : Int32) =>
     rec1 (v14, V13))))
def f_X1_writes (fu : Nat) (V : BC) (x1 : Int32) : Option BC :=
 o_lp (f_X1_writes_L2 x1) fu (0, V)
abbrev rm_X1_writes : Room := { frames := 1, cells := 0, slots := 0, locals := 21 }
set_option maxHeartbeats 4000000 in
set_option maxRecDepth 100000 in
theorem m_X1_writes (l : Launch) (D : va_G) (g : Nat → ClassId) (sz : Nat) (adV : Nat → Nat) (fu : Nat) (V : BC) (x1 : Int32) (VO : BC) (hf : f_X1_writes fu V x1 = some VO) : bMet (S := Unit) l yX1_writes (ws_ yX1_writes cX1_writes 3 none) rm_X1_writes D g sz [.ref (adV 0), .int x1] [vW g adV V] (fun _ => True) (fun _ => none) (fun _ => [vW g adV VO]) := by
  refine b_met (by decide) (Nat.le_of_ble_eq_true rfl) ?_
  intro p e s m args below meth c A Q ls hx hb hml hr hlk hown hname hts hE hl hW
  revert hW; generalize s.heap = H; intro hW
  have hl : lv_has ls 3 [(0, .ref (adV 0)), (1, .int x1)] := hl
  rw [f_X1_writes] at hf
  refine lv_iconst (v := 0) hx hb dX1_writes_0 (by decide) ?_
  refine lv_istore_n (lv' := [(2, .int 0), (0, .ref (adV 0)), (1, .int x1)]) hx hb dX1_writes_1 rfl hl (by decide) rfl (fun ls hl => ?_)
  obtain ⟨stp1, est1, hf⟩ := o_ln hf
  have L1 : ∀ (n : Nat) (v2 : Int32) (V3 : BC) (H : Heap) (locs : List Loc) (ls : Array Slot), bW D g A s H locs [vW g adV V3] → lv_has ls 3 [(2, .int v2), (0, .ref (adV 0)), (1, .int x1)] → o_lp stp1 n (v2, V3) = some VO → W p l e rm_X1_writes s m args below meth c H locs 0 0 Q (F0 m 2 ls []) := by
    intro n1
    induction n1 with
    | zero => intro v2 V3 H locs ls hW hl hf; exact (o_lz hf).elim
    | succ n1 ih1 =>
      intro v2 V3 H locs ls hW hl hf
      have hf := o_lu est1 hf
      rw [f_X1_writes_L2] at hf
      refine lv_iload_n hx hb dX1_writes_2 rfl (lv_at hl 0 rfl) ?_
      refine lv_aload_n hx hb dX1_writes_3 rfl (lv_at hl 1 rfl) ?_
      refine b_get hx hb hts in_X1 hown hW 0 0 1 12 rfl vW_0 rfl (by decide) ⟨rfl, rfl, rfl⟩ (hts _ q165) vW_g12 dX1_writes_4 ?_
      refine lv_icmp_ge (tgt := 40) hx hb dX1_writes_7 (by decide) (fun c4 => ?_) (fun c4 => ?_)
      · have hf := o_t hf c4
        refine lv_aload_n hx hb dX1_writes_40 rfl (lv_at hl 1 rfl) ?_
        refine lv_iconst (v := 0) hx hb dX1_writes_41 (by decide) ?_
        obtain ⟨V5, eV5, hf⟩ := o_ls hf
        refine b_put hx hb hts in_X1 tyX1 tyX1_ok nmX1 hown hW 0 0 1 14 rfl vW_0 (vW_p14 eV5) rfl rfl (by decide) ⟨rfl, rfl, rfl⟩ (hts _ q172) rfl (ty := .int) rfl rfl rfl (by rw [vW_l]; decide) dX1_writes_42 (fun H locs hW => ?_)
        have hW : bW D g A s H locs [vW g adV V5] := hW
        cases hf
        exact b_vret hx hb hr hlk hE hW () rfl trivial rfl dX1_writes_45
      · have hf := o_f hf c4
        refine lv_aload_n hx hb dX1_writes_10 rfl (lv_at hl 1 rfl) ?_
        refine b_get hx hb hts in_X1 hown hW 0 0 1 4 rfl vW_0 rfl (by decide) ⟨rfl, rfl, rfl⟩ (hts _ q140) vW_g4 dX1_writes_11 ?_
        refine lv_iload_n hx hb dX1_writes_14 rfl (lv_at hl 0 rfl) ?_
        refine lv_iload_n hx hb dX1_writes_15 rfl (lv_at hl 2 rfl) ?_
        refine lv_iload_n hx hb dX1_writes_16 rfl (lv_at hl 0 rfl) ?_
        obtain ⟨r6, hc6, hf⟩ := o_b1s hf
        have hp6 : List.Perm [vW g adV V3] ([] ++ [vW g adV V3]) := b_perm [] [0] 1 rfl rfl rfl rfl
        refine b_call0 ⟨rfl, rfl⟩ (va_runSN (As := [.int x1, .int v2]) (rest := [.int v2, .ref (adV 5)]) ⟨hx, hb, hml, hown, hts⟩ (m_X0_has l D g H.size x1 v2 r6 hc6) ⟨va_cnB 2 hts (lw_meth q590) rfl rfl rfl (hW.2.2.2.2.2.1 _ (List.mem_of_getElem? (i := 4) rfl)) (hts _ q76) (by decide +kernel) ⟨Nat.le_of_ble_eq_true rfl, Nat.le_of_ble_eq_true rfl⟩, hts _ q589, trivial⟩ (b_preS hW hp6) rfl rfl hl.1 rfl (lv_room (Nat.le_of_ble_eq_true rfl)) dX1_writes_17 ⟨Nat.le_of_ble_eq_true rfl, Nat.le_of_ble_eq_true rfl⟩) hW hp6 (fun _ _ H locs hW => ?_)
        have hW : bW D g A s H locs [vW g adV V3] := hW
        refine lv_if_eq (tgt := 32) hx hb dX1_writes_20 (by decide) (fun c7 => ?_) (fun c7 => ?_)
        · have hf := o_t hf c7
          refine lv_iconst (v := (-1)) hx hb dX1_writes_32 (by decide) ?_
          obtain ⟨h8, hf⟩ := o_cs hf
          obtain ⟨V9, eV9, hf⟩ := o_ls hf
          refine b_iast hx hb hW 0 5 rfl vW_5 (vW_s5 eV9) rfl h8 dX1_writes_33 (fun H locs hW => ?_)
          have hW : bW D g A s H locs [vW g adV V9] := hW
          obtain ⟨v10, ev10, hf⟩ := o_ls hf
          refine lv_iinc (v := v10) (lv' := [(2, .int v10), (0, .ref (adV 0)), (1, .int x1)]) hx hb dX1_writes_34 hl (k := 0) rfl ev10 (by decide) rfl (fun ls hl => ?_)
          refine lv_goto (tgt := 2) hx hb dX1_writes_37 (by decide) ?_
          exact ih1 _ _ _ _ _ hW (lv_sub hl [0, 1, 2] rfl) hf
        · have hf := o_f hf c7
          refine lv_aload_n hx hb dX1_writes_23 rfl (lv_at hl 1 rfl) ?_
          refine b_get hx hb hts in_X1 hown hW 0 0 1 0 rfl vW_0 rfl (by decide) ⟨rfl, rfl, rfl⟩ (hts _ q128) vW_g0 dX1_writes_24 ?_
          refine lv_iload_n hx hb dX1_writes_27 rfl (lv_at hl 0 rfl) ?_
          obtain ⟨h11, hf⟩ := o_cs hf
          refine b_iald hx hb hW 0 1 rfl vW_1 h11 dX1_writes_28 ?_
          refine lv_goto (tgt := 33) hx hb dX1_writes_29 (by decide) ?_
          obtain ⟨v12, ev12, hf⟩ := o_ls hf
          refine b_topi ev12 ?_
          obtain ⟨V13, eV13, hf⟩ := o_ls hf
          refine b_iast hx hb hW 0 5 rfl vW_5 (vW_s5 eV13) rfl h11 dX1_writes_33 (fun H locs hW => ?_)
          have hW : bW D g A s H locs [vW g adV V13] := hW
          obtain ⟨v14, ev14, hf⟩ := o_ls hf
          refine lv_iinc (v := v14) (lv' := [(2, .int v14), (0, .ref (adV 0)), (1, .int x1)]) hx hb dX1_writes_34 hl (k := 0) rfl ev14 (by decide) rfl (fun ls hl => ?_)
          refine lv_goto (tgt := 2) hx hb dX1_writes_37 (by decide) ?_
          exact ih1 _ _ _ _ _ hW (lv_sub hl [0, 1, 2] rfl) hf
  exact L1 _ _ _ _ _ _ hW (lv_sub hl [0, 1, 2] rfl) hf
def f_X1_gets (V : BC) (x1 : Int32) (x2 : Int32) : Option BC :=
 o_ck (inB x1 6) (o_lt ((V.1 6 (ix x1)) + 1) fun (v2 : Int32) =>
 o_lt (bI V 6 (upd (V.1 6) (ix x1) v2)) fun (V3 : BC) =>
 o_lt ((V3.1 7 (ix x1)) + x2) fun (v4 : Int32) =>
 o_lt (bI V3 7 (upd (V3.1 7) (ix x1) v4)) fun (V5 : BC) =>
 some V5)
abbrev rm_X1_gets : Room := { frames := 0, cells := 0, slots := 0, locals := 0 }
set_option maxHeartbeats 4000000 in
set_option maxRecDepth 100000 in
theorem m_X1_gets (l : Launch) (D : va_G) (g : Nat → ClassId) (sz : Nat) (adV : Nat → Nat) (V : BC) (x1 : Int32) (x2 : Int32) (VO : BC) (hf : f_X1_gets V x1 x2 = some VO) : bMet (S := Unit) l yX1_gets (ws_ yX1_gets cX1_gets 3 none) rm_X1_gets D g sz [.ref (adV 0), .int x1, .int x2] [vW g adV V] (fun _ => True) (fun _ => none) (fun _ => [vW g adV VO]) := by
  refine b_met (by decide) (Nat.le_of_ble_eq_true rfl) ?_
  intro p e s m args below meth c A Q ls hx hb hml hr hlk hown hname hts hE hl hW
  revert hW; generalize s.heap = H; intro hW
  have hl : lv_has ls 3 [(0, .ref (adV 0)), (1, .int x1), (2, .int x2)] := hl
  rw [f_X1_gets] at hf
  refine lv_aload_n hx hb dX1_gets_0 rfl (lv_at hl 0 rfl) ?_
  refine b_get hx hb hts in_X1 hown hW 0 0 1 5 rfl vW_0 rfl (by decide) ⟨rfl, rfl, rfl⟩ (hts _ q146) vW_g5 dX1_gets_1 ?_
  refine lv_iload_n hx hb dX1_gets_4 rfl (lv_at hl 1 rfl) ?_
  refine lv_dup2_11 hx hb dX1_gets_5 rfl rfl ?_
  obtain ⟨h1, hf⟩ := o_cs hf
  refine b_iald hx hb hW 0 6 rfl vW_6 h1 dX1_gets_6 ?_
  refine lv_iconst (v := 1) hx hb dX1_gets_7 (by decide) ?_
  refine lv_iadd hx hb dX1_gets_8 ?_
  obtain ⟨v2, ev2, hf⟩ := o_ls hf
  refine b_topi ev2 ?_
  obtain ⟨V3, eV3, hf⟩ := o_ls hf
  refine b_iast hx hb hW 0 6 rfl vW_6 (vW_s6 eV3) rfl h1 dX1_gets_9 (fun H locs hW => ?_)
  have hW : bW D g A s H locs [vW g adV V3] := hW
  refine lv_aload_n hx hb dX1_gets_10 rfl (lv_at hl 0 rfl) ?_
  refine b_get hx hb hts in_X1 hown hW 0 0 1 6 rfl vW_0 rfl (by decide) ⟨rfl, rfl, rfl⟩ (hts _ q150) vW_g6 dX1_gets_11 ?_
  refine lv_iload_n hx hb dX1_gets_14 rfl (lv_at hl 1 rfl) ?_
  refine lv_dup2_11 hx hb dX1_gets_15 rfl rfl ?_
  refine b_iald hx hb hW 0 7 rfl vW_7 h1 dX1_gets_16 ?_
  refine lv_iload_n hx hb dX1_gets_17 rfl (lv_at hl 2 rfl) ?_
  refine lv_iadd hx hb dX1_gets_18 ?_
  obtain ⟨v4, ev4, hf⟩ := o_ls hf
  refine b_topi ev4 ?_
  obtain ⟨V5, eV5, hf⟩ := o_ls hf
  refine b_iast hx hb hW 0 7 rfl vW_7 (vW_s7 eV5) rfl h1 dX1_gets_19 (fun H locs hW => ?_)
  have hW : bW D g A s H locs [vW g adV V5] := hW
  cases hf
  exact b_vret hx hb hr hlk hE hW () rfl trivial rfl dX1_gets_20
def f_X1_isFull (V : BC) (x1 : Int32) : Option Int32 :=
 o_ck (inB x1 6) ((if (V.1 17 (ix x1)) = (V.1 3 (ix x1)) then
 some 1
 else
 some 0))
abbrev rm_X1_isFull : Room := { frames := 0, cells := 0, slots := 0, locals := 0 }
set_option maxHeartbeats 4000000 in
set_option maxRecDepth 100000 in
theorem m_X1_isFull (l : Launch) (D : va_G) (g : Nat → ClassId) (sz : Nat) (adV : Nat → Nat) (V : BC) (x1 : Int32) (rO : Int32) (hf : f_X1_isFull V x1 = some rO) : bMet (S := Unit) l yX1_isFull (ws_ yX1_isFull cX1_isFull 2 (some .boolean)) rm_X1_isFull D g sz [.ref (adV 0), .int x1] [vW g adV V] (fun _ => True) (fun _ => some (.int rO)) (fun _ => [vW g adV V]) := by
  refine b_met (by decide) (Nat.le_of_ble_eq_true rfl) ?_
  intro p e s m args below meth c A Q ls hx hb hml hr hlk hown hname hts hE hl hW
  revert hW; generalize s.heap = H; intro hW
  have hl : lv_has ls 2 [(0, .ref (adV 0)), (1, .int x1)] := hl
  rw [f_X1_isFull] at hf
  refine lv_aload_n hx hb dX1_isFull_0 rfl (lv_at hl 0 rfl) ?_
  refine b_get hx hb hts in_X1 hown hW 0 0 1 10 rfl vW_0 rfl (by decide) ⟨rfl, rfl, rfl⟩ (hts _ q159) vW_g10 dX1_isFull_1 ?_
  refine lv_iload_n hx hb dX1_isFull_4 rfl (lv_at hl 1 rfl) ?_
  obtain ⟨h1, hf⟩ := o_cs hf
  refine b_iald hx hb hW 0 17 rfl vW_17 h1 dX1_isFull_5 ?_
  refine lv_aload_n hx hb dX1_isFull_6 rfl (lv_at hl 0 rfl) ?_
  refine b_get hx hb hts in_X1 hown hW 0 0 1 2 rfl vW_0 rfl (by decide) ⟨rfl, rfl, rfl⟩ (hts _ q134) vW_g2 dX1_isFull_7 ?_
  refine lv_iload_n hx hb dX1_isFull_10 rfl (lv_at hl 1 rfl) ?_
  refine b_iald hx hb hW 0 3 rfl vW_3 h1 dX1_isFull_11 ?_
  refine lv_icmp_ne (tgt := 19) hx hb dX1_isFull_12 (by decide) (fun c2 => ?_) (fun c2 => ?_)
  · have hf := o_f hf c2
    refine lv_iconst (v := 0) hx hb dX1_isFull_19 (by decide) ?_
    cases hf
    exact b_zret hx hb hr hlk hE hW () rfl trivial rfl (by decide) dX1_isFull_20
  · have hf := o_t hf c2
    refine lv_iconst (v := 1) hx hb dX1_isFull_15 (by decide) ?_
    refine lv_goto (tgt := 20) hx hb dX1_isFull_16 (by decide) ?_
    cases hf
    exact b_zret hx hb hr hlk hE hW () rfl trivial rfl (by decide) dX1_isFull_20
def f_X1_open_L4 (V : BC) (rec1 : (Int32 × Int32) → Option Int32) : Int32 × Int32 → Option Int32
  | (v2, v3) =>
    (if (V.1 0 0) ≤ v3 then
     some v2
     else
     o_b1 (f_X1_isFull V v3) fun (r5 : Int32) =>
     (if r5 = 0 then
     o_lt (v2 ||| (1 <<< (v3 &&& 31))) fun (v7 : Int32) =>
     o_lt (v3 + 1) fun (v8 : Int32) =>
     rec1 (v7, v8)
     else
     o_lt (v2 ||| 0) fun (v9 : Int32) =>
     o_lt (v3 + 1) fun (v10 : Int32) =>
     rec1 (v9, v10)))
def f_X1_open (fu : Nat) (V : BC) : Option Int32 :=
 o_lp (f_X1_open_L4 V) fu (0, 0)
abbrev rm_X1_open : Room := { frames := 1, cells := 0, slots := 0, locals := 21 }
set_option maxHeartbeats 4000000 in
set_option maxRecDepth 100000 in
theorem m_X1_open (l : Launch) (D : va_G) (g : Nat → ClassId) (sz : Nat) (adV : Nat → Nat) (fu : Nat) (V : BC) (rO : Int32) (hf : f_X1_open fu V = some rO) : bMet (S := Unit) l yX1_open (ws_ yX1_open cX1_open 3 (some .int)) rm_X1_open D g sz [.ref (adV 0)] [vW g adV V] (fun _ => True) (fun _ => some (.int rO)) (fun _ => [vW g adV V]) := by
  refine b_met (by decide) (Nat.le_of_ble_eq_true rfl) ?_
  intro p e s m args below meth c A Q ls hx hb hml hr hlk hown hname hts hE hl hW
  revert hW; generalize s.heap = H; intro hW
  have hl : lv_has ls 3 [(0, .ref (adV 0))] := hl
  rw [f_X1_open] at hf
  refine lv_iconst (v := 0) hx hb dX1_open_0 (by decide) ?_
  refine lv_istore_n (lv' := [(1, .int 0), (0, .ref (adV 0))]) hx hb dX1_open_1 rfl hl (by decide) rfl (fun ls hl => ?_)
  refine lv_iconst (v := 0) hx hb dX1_open_2 (by decide) ?_
  refine lv_istore_n (lv' := [(2, .int 0), (1, .int 0), (0, .ref (adV 0))]) hx hb dX1_open_3 rfl hl (by decide) rfl (fun ls hl => ?_)
  obtain ⟨stp1, est1, hf⟩ := o_ln hf
  have L1 : ∀ (n : Nat) (v2 : Int32) (v3 : Int32) (H : Heap) (locs : List Loc) (ls : Array Slot), bW D g A s H locs [vW g adV V] → lv_has ls 3 [(2, .int v3), (1, .int v2), (0, .ref (adV 0))] → o_lp stp1 n (v2, v3) = some rO → W p l e rm_X1_open s m args below meth c H locs 0 0 Q (F0 m 4 ls []) := by
    intro n1
    induction n1 with
    | zero => intro v2 v3 H locs ls hW hl hf; exact (o_lz hf).elim
    | succ n1 ih1 =>
      intro v2 v3 H locs ls hW hl hf
      have hf := o_lu est1 hf
      rw [f_X1_open_L4] at hf
      refine lv_iload_n hx hb dX1_open_4 rfl (lv_at hl 0 rfl) ?_
      refine lv_aload_n hx hb dX1_open_5 rfl (lv_at hl 2 rfl) ?_
      refine b_get hx hb hts in_X1 hown hW 0 0 1 12 rfl vW_0 rfl (by decide) ⟨rfl, rfl, rfl⟩ (hts _ q165) vW_g12 dX1_open_6 ?_
      refine lv_icmp_ge (tgt := 36) hx hb dX1_open_9 (by decide) (fun c4 => ?_) (fun c4 => ?_)
      · have hf := o_t hf c4
        refine lv_iload_n hx hb dX1_open_36 rfl (lv_at hl 1 rfl) ?_
        cases hf
        exact b_iret hx hb hr hlk hE hW () rfl trivial rfl dX1_open_37
      · have hf := o_f hf c4
        refine lv_iload_n hx hb dX1_open_12 rfl (lv_at hl 1 rfl) ?_
        refine lv_aload_n hx hb dX1_open_13 rfl (lv_at hl 2 rfl) ?_
        refine lv_iload_n hx hb dX1_open_14 rfl (lv_at hl 0 rfl) ?_
        obtain ⟨r5, hc5, hf⟩ := o_b1s hf
        have hp5 : List.Perm [vW g adV V] ([vW g adV V] ++ []) := b_perm [0] [] 1 rfl rfl rfl rfl
        refine b_call0 ⟨rfl, rfl⟩ (va_runV (As := [.int v3]) (rest := [.int v2]) ⟨hx, hb, hml, hown, hts⟩ (m_X1_isFull l D g H.size adV V v3 r5 hc5) (cwV 1 hts (lw_V q1166 q1167 q1168 q77 q1169) rfl rfl rfl (by decide +kernel) ⟨Nat.le_of_ble_eq_true rfl, Nat.le_of_ble_eq_true rfl⟩) (b_preV (pp := 0) (q := 0) hW hp5 rfl vW_0 rfl) rfl rfl hl.1 rfl (lv_room (Nat.le_of_ble_eq_true rfl)) dX1_open_15 ⟨Nat.le_of_ble_eq_true rfl, Nat.le_of_ble_eq_true rfl⟩) hW hp5 (fun _ _ H locs hW => ?_)
        have hW : bW D g A s H locs [vW g adV V] := hW
        refine lv_if_eq (tgt := 25) hx hb dX1_open_18 (by decide) (fun c6 => ?_) (fun c6 => ?_)
        · have hf := o_t hf c6
          refine lv_iconst (v := 1) hx hb dX1_open_25 (by decide) ?_
          refine lv_iload_n hx hb dX1_open_26 rfl (lv_at hl 0 rfl) ?_
          refine lv_ishl hx hb dX1_open_27 ?_
          refine lv_ior hx hb dX1_open_28 ?_
          obtain ⟨v7, ev7, hf⟩ := o_ls hf
          refine b_topi ev7 ?_
          refine lv_istore_n (lv' := [(1, .int v7), (2, .int v3), (0, .ref (adV 0))]) hx hb dX1_open_29 rfl hl (by decide) rfl (fun ls hl => ?_)
          obtain ⟨v8, ev8, hf⟩ := o_ls hf
          refine lv_iinc (v := v8) (lv' := [(2, .int v8), (1, .int v7), (0, .ref (adV 0))]) hx hb dX1_open_30 hl (k := 1) rfl ev8 (by decide) rfl (fun ls hl => ?_)
          refine lv_goto (tgt := 4) hx hb dX1_open_33 (by decide) ?_
          exact ih1 _ _ _ _ _ hW (lv_sub hl [0, 1, 2] rfl) hf
        · have hf := o_f hf c6
          refine lv_iconst (v := 0) hx hb dX1_open_21 (by decide) ?_
          refine lv_goto (tgt := 28) hx hb dX1_open_22 (by decide) ?_
          refine lv_ior hx hb dX1_open_28 ?_
          obtain ⟨v9, ev9, hf⟩ := o_ls hf
          refine b_topi ev9 ?_
          refine lv_istore_n (lv' := [(1, .int v9), (2, .int v3), (0, .ref (adV 0))]) hx hb dX1_open_29 rfl hl (by decide) rfl (fun ls hl => ?_)
          obtain ⟨v10, ev10, hf⟩ := o_ls hf
          refine lv_iinc (v := v10) (lv' := [(2, .int v10), (1, .int v9), (0, .ref (adV 0))]) hx hb dX1_open_30 hl (k := 1) rfl ev10 (by decide) rfl (fun ls hl => ?_)
          refine lv_goto (tgt := 4) hx hb dX1_open_33 (by decide) ?_
          exact ih1 _ _ _ _ _ hW (lv_sub hl [0, 1, 2] rfl) hf
  exact L1 _ _ _ _ _ _ hW (lv_sub hl [0, 1, 2] rfl) hf
def f_X1_joyOf_L12 (V : BC) (x1 : Int32) (rec3 : (Int32 × Int32) → Option Int32) : Int32 × Int32 → Option Int32
  | (v4, v5) =>
    (if (V.1 0 0) ≤ v5 then
     some v4
     else
     o_ck (inB v5 6) (o_b1 (f_X1_isFull V v5) fun (r8 : Int32) =>
     (if r8 = 0 then
     o_lt (v4 + ((V.1 (11 + ix x1) (ix v5)) * (((V.1 1 (ix v5)) - (V.1 4 (ix v5))) - 0))) fun (v10 : Int32) =>
     o_lt (v5 + 1) fun (v11 : Int32) =>
     rec3 (v10, v11)
     else
     o_lt (v4 + ((V.1 (11 + ix x1) (ix v5)) * (((V.1 1 (ix v5)) - (V.1 4 (ix v5))) - 20))) fun (v12 : Int32) =>
     o_lt (v5 + 1) fun (v13 : Int32) =>
     rec3 (v12, v13))))
def f_X1_joyOf (fu : Nat) (V : BC) (x1 : Int32) : Option Int32 :=
 o_ck (inB x1 6) (o_lt ((-30) * (V.1 18 (ix x1))) fun (v2 : Int32) =>
 o_lp (f_X1_joyOf_L12 V x1) fu (v2, 0))
abbrev rm_X1_joyOf : Room := { frames := 1, cells := 0, slots := 0, locals := 21 }
set_option maxHeartbeats 4000000 in
set_option maxRecDepth 100000 in
theorem m_X1_joyOf (l : Launch) (D : va_G) (g : Nat → ClassId) (sz : Nat) (adV : Nat → Nat) (fu : Nat) (V : BC) (x1 : Int32) (rO : Int32) (hf : f_X1_joyOf fu V x1 = some rO) : bMet (S := Unit) l yX1_joyOf (ws_ yX1_joyOf cX1_joyOf 4 (some .int)) rm_X1_joyOf D g sz [.ref (adV 0), .int x1] [vW g adV V] (fun _ => True) (fun _ => some (.int rO)) (fun _ => [vW g adV V]) := by
  refine b_met (by decide) (Nat.le_of_ble_eq_true rfl) ?_
  intro p e s m args below meth c A Q ls hx hb hml hr hlk hown hname hts hE hl hW
  revert hW; generalize s.heap = H; intro hW
  have hl : lv_has ls 4 [(0, .ref (adV 0)), (1, .int x1)] := hl
  rw [f_X1_joyOf] at hf
  refine lv_bipush (v := (-30)) hx hb dX1_joyOf_0 (by decide) ?_
  refine lv_aload_n hx hb dX1_joyOf_2 rfl (lv_at hl 0 rfl) ?_
  refine b_get hx hb hts in_X1 hown hW 0 0 1 11 rfl vW_0 rfl (by decide) ⟨rfl, rfl, rfl⟩ (hts _ q161) vW_g11 dX1_joyOf_3 ?_
  refine lv_iload_n hx hb dX1_joyOf_6 rfl (lv_at hl 1 rfl) ?_
  obtain ⟨h1, hf⟩ := o_cs hf
  refine b_iald hx hb hW 0 18 rfl vW_18 h1 dX1_joyOf_7 ?_
  refine lv_imul hx hb dX1_joyOf_8 ?_
  obtain ⟨v2, ev2, hf⟩ := o_ls hf
  refine b_topi ev2 ?_
  refine lv_istore_n (lv' := [(2, .int v2), (0, .ref (adV 0)), (1, .int x1)]) hx hb dX1_joyOf_9 rfl hl (by decide) rfl (fun ls hl => ?_)
  refine lv_iconst (v := 0) hx hb dX1_joyOf_10 (by decide) ?_
  refine lv_istore_n (lv' := [(3, .int 0), (2, .int v2), (0, .ref (adV 0)), (1, .int x1)]) hx hb dX1_joyOf_11 rfl hl (by decide) rfl (fun ls hl => ?_)
  obtain ⟨stp3, est3, hf⟩ := o_ln hf
  have L3 : ∀ (n : Nat) (v4 : Int32) (v5 : Int32) (H : Heap) (locs : List Loc) (ls : Array Slot), bW D g A s H locs [vW g adV V] → lv_has ls 4 [(3, .int v5), (2, .int v4), (0, .ref (adV 0)), (1, .int x1)] → o_lp stp3 n (v4, v5) = some rO → W p l e rm_X1_joyOf s m args below meth c H locs 0 0 Q (F0 m 12 ls []) := by
    intro n3
    induction n3 with
    | zero => intro v4 v5 H locs ls hW hl hf; exact (o_lz hf).elim
    | succ n3 ih3 =>
      intro v4 v5 H locs ls hW hl hf
      have hf := o_lu est3 hf
      rw [f_X1_joyOf_L12] at hf
      refine lv_iload_n hx hb dX1_joyOf_12 rfl (lv_at hl 0 rfl) ?_
      refine lv_aload_n hx hb dX1_joyOf_13 rfl (lv_at hl 2 rfl) ?_
      refine b_get hx hb hts in_X1 hown hW 0 0 1 12 rfl vW_0 rfl (by decide) ⟨rfl, rfl, rfl⟩ (hts _ q165) vW_g12 dX1_joyOf_14 ?_
      refine lv_icmp_ge (tgt := 66) hx hb dX1_joyOf_17 (by decide) (fun c6 => ?_) (fun c6 => ?_)
      · have hf := o_t hf c6
        refine lv_iload_n hx hb dX1_joyOf_66 rfl (lv_at hl 1 rfl) ?_
        cases hf
        exact b_iret hx hb hr hlk hE hW () rfl trivial rfl dX1_joyOf_67
      · have hf := o_f hf c6
        refine lv_iload_n hx hb dX1_joyOf_20 rfl (lv_at hl 1 rfl) ?_
        refine lv_aload_n hx hb dX1_joyOf_21 rfl (lv_at hl 2 rfl) ?_
        refine b_get hx hb hts in_X1 hown hW 0 0 1 9 rfl vW_0 rfl (by decide) ⟨rfl, rfl, rfl⟩ (hts _ q157) vW_g9 dX1_joyOf_22 ?_
        refine lv_iload_n hx hb dX1_joyOf_25 rfl (lv_at hl 3 rfl) ?_
        refine b_agrI hx hb hW 0 10 rfl vW_10 h1 dX1_joyOf_26 ?_
        refine lv_iload_n hx hb dX1_joyOf_27 rfl (lv_at hl 0 rfl) ?_
        obtain ⟨h7, hf⟩ := o_cs hf
        refine b_iald hx hb hW 0 (11 + ix x1) rfl (vW_r11 (inB_lt h1)) h7 dX1_joyOf_28 ?_
        refine lv_aload_n hx hb dX1_joyOf_29 rfl (lv_at hl 2 rfl) ?_
        refine b_get hx hb hts in_X1 hown hW 0 0 1 0 rfl vW_0 rfl (by decide) ⟨rfl, rfl, rfl⟩ (hts _ q128) vW_g0 dX1_joyOf_30 ?_
        refine lv_iload_n hx hb dX1_joyOf_33 rfl (lv_at hl 0 rfl) ?_
        refine b_iald hx hb hW 0 1 rfl vW_1 h7 dX1_joyOf_34 ?_
        refine lv_aload_n hx hb dX1_joyOf_35 rfl (lv_at hl 2 rfl) ?_
        refine b_get hx hb hts in_X1 hown hW 0 0 1 3 rfl vW_0 rfl (by decide) ⟨rfl, rfl, rfl⟩ (hts _ q136) vW_g3 dX1_joyOf_36 ?_
        refine lv_iload_n hx hb dX1_joyOf_39 rfl (lv_at hl 0 rfl) ?_
        refine b_iald hx hb hW 0 4 rfl vW_4 h7 dX1_joyOf_40 ?_
        refine lv_isub hx hb dX1_joyOf_41 ?_
        refine lv_aload_n hx hb dX1_joyOf_42 rfl (lv_at hl 2 rfl) ?_
        refine lv_iload_n hx hb dX1_joyOf_43 rfl (lv_at hl 0 rfl) ?_
        obtain ⟨r8, hc8, hf⟩ := o_b1s hf
        have hp8 : List.Perm [vW g adV V] ([vW g adV V] ++ []) := b_perm [0] [] 1 rfl rfl rfl rfl
        refine b_call0 ⟨rfl, rfl⟩ (va_runV (As := [.int v5]) (rest := [.int ((V.1 1 (ix v5)) - (V.1 4 (ix v5))), .int (V.1 (11 + ix x1) (ix v5)), .int v4]) ⟨hx, hb, hml, hown, hts⟩ (m_X1_isFull l D g H.size adV V v5 r8 hc8) (cwV 1 hts (lw_V q1166 q1167 q1168 q77 q1169) rfl rfl rfl (by decide +kernel) ⟨Nat.le_of_ble_eq_true rfl, Nat.le_of_ble_eq_true rfl⟩) (b_preV (pp := 0) (q := 0) hW hp8 rfl vW_0 rfl) rfl rfl hl.1 rfl (lv_room (Nat.le_of_ble_eq_true rfl)) dX1_joyOf_44 ⟨Nat.le_of_ble_eq_true rfl, Nat.le_of_ble_eq_true rfl⟩) hW hp8 (fun _ _ H locs hW => ?_)
        have hW : bW D g A s H locs [vW g adV V] := hW
        refine lv_if_eq (tgt := 55) hx hb dX1_joyOf_47 (by decide) (fun c9 => ?_) (fun c9 => ?_)
        · have hf := o_t hf c9
          refine lv_iconst (v := 0) hx hb dX1_joyOf_55 (by decide) ?_
          refine lv_isub hx hb dX1_joyOf_56 ?_
          refine lv_imul hx hb dX1_joyOf_57 ?_
          refine lv_iadd hx hb dX1_joyOf_58 ?_
          obtain ⟨v10, ev10, hf⟩ := o_ls hf
          refine b_topi ev10 ?_
          refine lv_istore_n (lv' := [(2, .int v10), (3, .int v5), (0, .ref (adV 0)), (1, .int x1)]) hx hb dX1_joyOf_59 rfl hl (by decide) rfl (fun ls hl => ?_)
          obtain ⟨v11, ev11, hf⟩ := o_ls hf
          refine lv_iinc (v := v11) (lv' := [(3, .int v11), (2, .int v10), (0, .ref (adV 0)), (1, .int x1)]) hx hb dX1_joyOf_60 hl (k := 1) rfl ev11 (by decide) rfl (fun ls hl => ?_)
          refine lv_goto (tgt := 12) hx hb dX1_joyOf_63 (by decide) ?_
          exact ih3 _ _ _ _ _ hW (lv_sub hl [0, 1, 2, 3] rfl) hf
        · have hf := o_f hf c9
          refine lv_bipush (v := 20) hx hb dX1_joyOf_50 (by decide) ?_
          refine lv_goto (tgt := 56) hx hb dX1_joyOf_52 (by decide) ?_
          refine lv_isub hx hb dX1_joyOf_56 ?_
          refine lv_imul hx hb dX1_joyOf_57 ?_
          refine lv_iadd hx hb dX1_joyOf_58 ?_
          obtain ⟨v12, ev12, hf⟩ := o_ls hf
          refine b_topi ev12 ?_
          refine lv_istore_n (lv' := [(2, .int v12), (3, .int v5), (0, .ref (adV 0)), (1, .int x1)]) hx hb dX1_joyOf_59 rfl hl (by decide) rfl (fun ls hl => ?_)
          obtain ⟨v13, ev13, hf⟩ := o_ls hf
          refine lv_iinc (v := v13) (lv' := [(3, .int v13), (2, .int v12), (0, .ref (adV 0)), (1, .int x1)]) hx hb dX1_joyOf_60 hl (k := 1) rfl ev13 (by decide) rfl (fun ls hl => ?_)
          refine lv_goto (tgt := 12) hx hb dX1_joyOf_63 (by decide) ?_
          exact ih3 _ _ _ _ _ hW (lv_sub hl [0, 1, 2, 3] rfl) hf
  exact L3 _ _ _ _ _ _ hW (lv_sub hl [0, 1, 2, 3] rfl) hf
def f_X1_joy_L15 (V : BC) (fu : Nat) (rec2 : (Int32 × Int32) → Option Int32) : Int32 × Int32 → Option Int32
  | (v3, v4) =>
    (if (V.1 0 1) ≤ v4 then
     some v3
     else
     o_b1 (f_X1_joyOf fu V v4) fun (r6 : Int32) =>
     o_lt (v3 + r6) fun (v7 : Int32) =>
     o_lt (v4 + 1) fun (v8 : Int32) =>
     rec2 (v7, v8))
def f_X1_joy (fu : Nat) (V : BC) (x1 : Int32) : Option Int32 :=
 (if x1 = (-1) then
 o_lp (f_X1_joy_L15 V fu) fu (0, 0)
 else
 o_b1 (f_X1_joyOf fu V x1) fun (r9 : Int32) =>
 some r9)
abbrev rm_X1_joy : Room := { frames := 2, cells := 0, slots := 0, locals := 44 }
set_option maxHeartbeats 4000000 in
set_option maxRecDepth 100000 in
theorem m_X1_joy (l : Launch) (D : va_G) (g : Nat → ClassId) (sz : Nat) (adV : Nat → Nat) (fu : Nat) (V : BC) (x1 : Int32) (rO : Int32) (hf : f_X1_joy fu V x1 = some rO) : bMet (S := Unit) l yX1_joy (ws_ yX1_joy cX1_joy 4 (some .int)) rm_X1_joy D g sz [.ref (adV 0), .int x1] [vW g adV V] (fun _ => True) (fun _ => some (.int rO)) (fun _ => [vW g adV V]) := by
  refine b_met (by decide) (Nat.le_of_ble_eq_true rfl) ?_
  intro p e s m args below meth c A Q ls hx hb hml hr hlk hown hname hts hE hl hW
  revert hW; generalize s.heap = H; intro hW
  have hl : lv_has ls 4 [(0, .ref (adV 0)), (1, .int x1)] := hl
  rw [f_X1_joy] at hf
  refine lv_iload_n hx hb dX1_joy_0 rfl (lv_at hl 1 rfl) ?_
  refine lv_iconst (v := (-1)) hx hb dX1_joy_1 (by decide) ?_
  refine lv_icmp_eq (tgt := 11) hx hb dX1_joy_2 (by decide) (fun c1 => ?_) (fun c1 => ?_)
  · have hf := o_t hf c1
    refine lv_iconst (v := 0) hx hb dX1_joy_11 (by decide) ?_
    refine lv_istore_n (lv' := [(2, .int 0), (0, .ref (adV 0)), (1, .int x1)]) hx hb dX1_joy_12 rfl hl (by decide) rfl (fun ls hl => ?_)
    refine lv_iconst (v := 0) hx hb dX1_joy_13 (by decide) ?_
    refine lv_istore_n (lv' := [(3, .int 0), (2, .int 0), (0, .ref (adV 0)), (1, .int x1)]) hx hb dX1_joy_14 rfl hl (by decide) rfl (fun ls hl => ?_)
    obtain ⟨stp2, est2, hf⟩ := o_ln hf
    have L2 : ∀ (n : Nat) (v3 : Int32) (v4 : Int32) (H : Heap) (locs : List Loc) (ls : Array Slot), bW D g A s H locs [vW g adV V] → lv_has ls 4 [(3, .int v4), (2, .int v3), (0, .ref (adV 0))] → o_lp stp2 n (v3, v4) = some rO → W p l e rm_X1_joy s m args below meth c H locs 0 0 Q (F0 m 15 ls []) := by
      intro n2
      induction n2 with
      | zero => intro v3 v4 H locs ls hW hl hf; exact (o_lz hf).elim
      | succ n2 ih2 =>
        intro v3 v4 H locs ls hW hl hf
        have hf := o_lu est2 hf
        rw [f_X1_joy_L15] at hf
        refine lv_iload_n hx hb dX1_joy_15 rfl (lv_at hl 0 rfl) ?_
        refine lv_aload_n hx hb dX1_joy_16 rfl (lv_at hl 2 rfl) ?_
        refine b_get hx hb hts in_X1 hown hW 0 0 1 13 rfl vW_0 rfl (by decide) ⟨rfl, rfl, rfl⟩ (hts _ q168) vW_g13 dX1_joy_17 ?_
        refine lv_icmp_ge (tgt := 37) hx hb dX1_joy_20 (by decide) (fun c5 => ?_) (fun c5 => ?_)
        · have hf := o_t hf c5
          refine lv_iload_n hx hb dX1_joy_37 rfl (lv_at hl 1 rfl) ?_
          cases hf
          exact b_iret hx hb hr hlk hE hW () rfl trivial rfl dX1_joy_38
        · have hf := o_f hf c5
          refine lv_iload_n hx hb dX1_joy_23 rfl (lv_at hl 1 rfl) ?_
          refine lv_aload_n hx hb dX1_joy_24 rfl (lv_at hl 2 rfl) ?_
          refine lv_iload_n hx hb dX1_joy_25 rfl (lv_at hl 0 rfl) ?_
          obtain ⟨r6, hc6, hf⟩ := o_b1s hf
          have hp6 : List.Perm [vW g adV V] ([vW g adV V] ++ []) := b_perm [0] [] 1 rfl rfl rfl rfl
          refine b_call0 ⟨rfl, rfl⟩ (va_runV (As := [.int v4]) (rest := [.int v3]) ⟨hx, hb, hml, hown, hts⟩ (m_X1_joyOf l D g H.size adV fu V v4 r6 hc6) (cwV 1 hts (lw_V q1192 q1193 q1194 q77 q1195) rfl rfl rfl (by decide +kernel) ⟨Nat.le_of_ble_eq_true rfl, Nat.le_of_ble_eq_true rfl⟩) (b_preV (pp := 0) (q := 0) hW hp6 rfl vW_0 rfl) rfl rfl hl.1 rfl (lv_room (Nat.le_of_ble_eq_true rfl)) dX1_joy_26 ⟨Nat.le_of_ble_eq_true rfl, Nat.le_of_ble_eq_true rfl⟩) hW hp6 (fun _ _ H locs hW => ?_)
          have hW : bW D g A s H locs [vW g adV V] := hW
          refine lv_iadd hx hb dX1_joy_29 ?_
          obtain ⟨v7, ev7, hf⟩ := o_ls hf
          refine b_topi ev7 ?_
          refine lv_istore_n (lv' := [(2, .int v7), (3, .int v4), (0, .ref (adV 0))]) hx hb dX1_joy_30 rfl hl (by decide) rfl (fun ls hl => ?_)
          obtain ⟨v8, ev8, hf⟩ := o_ls hf
          refine lv_iinc (v := v8) (lv' := [(3, .int v8), (2, .int v7), (0, .ref (adV 0))]) hx hb dX1_joy_31 hl (k := 1) rfl ev8 (by decide) rfl (fun ls hl => ?_)
          refine lv_goto (tgt := 15) hx hb dX1_joy_34 (by decide) ?_
          exact ih2 _ _ _ _ _ hW (lv_sub hl [0, 1, 2] rfl) hf
    exact L2 _ _ _ _ _ _ hW (lv_sub hl [0, 1, 2] rfl) hf
  · have hf := o_f hf c1
    refine lv_aload_n hx hb dX1_joy_5 rfl (lv_at hl 0 rfl) ?_
    refine lv_iload_n hx hb dX1_joy_6 rfl (lv_at hl 1 rfl) ?_
    obtain ⟨r9, hc9, hf⟩ := o_b1s hf
    have hp9 : List.Perm [vW g adV V] ([vW g adV V] ++ []) := b_perm [0] [] 1 rfl rfl rfl rfl
    refine b_call0 ⟨rfl, rfl⟩ (va_runV (As := [.int x1]) (rest := []) ⟨hx, hb, hml, hown, hts⟩ (m_X1_joyOf l D g H.size adV fu V x1 r9 hc9) (cwV 1 hts (lw_V q1192 q1193 q1194 q77 q1195) rfl rfl rfl (by decide +kernel) ⟨Nat.le_of_ble_eq_true rfl, Nat.le_of_ble_eq_true rfl⟩) (b_preV (pp := 0) (q := 0) hW hp9 rfl vW_0 rfl) rfl rfl hl.1 rfl (lv_room (Nat.le_of_ble_eq_true rfl)) dX1_joy_7 ⟨Nat.le_of_ble_eq_true rfl, Nat.le_of_ble_eq_true rfl⟩) hW hp9 (fun _ _ H locs hW => ?_)
    have hW : bW D g A s H locs [vW g adV V] := hW
    cases hf
    exact b_iret hx hb hr hlk hE hW () rfl trivial rfl dX1_joy_10
def f_X1_ages_2 (V : BC) (x1 : Int32) : Option BC :=
 o_ck (inB x1 6) ((if (V.1 17 (ix x1)) ≤ 0 then
 o_b1 (f_X1_isFull V x1) fun (r3 : Int32) =>
 (if r3 = 0 then
 (if (V.1 3 (ix x1)) ≤ (2 * (V.1 17 (ix x1))) then
 some V
 else
 (if (V.1 2 (ix x1)) ≤ (V.1 1 (ix x1)) then
 o_lt (V.1 1 (ix x1)) fun (v7 : Int32) =>
 o_lt (bI V 1 (upd (V.1 1) (ix x1) v7)) fun (V8 : BC) =>
 o_lt ((if (0 : Int32) < ((V8.1 4 (ix x1)) - 1) then ((V8.1 4 (ix x1)) - 1) else (0 : Int32))) fun (v9 : Int32) =>
 o_lt (bI V8 4 (upd (V8.1 4) (ix x1) v9)) fun (V10 : BC) =>
 some V10
 else
 o_lt ((if ((V.1 1 (ix x1)) + 3) < (V.1 2 (ix x1)) then ((V.1 1 (ix x1)) + 3) else (V.1 2 (ix x1)))) fun (v11 : Int32) =>
 o_lt (bI V 1 (upd (V.1 1) (ix x1) v11)) fun (V12 : BC) =>
 o_lt ((if (0 : Int32) < ((V12.1 4 (ix x1)) - 1) then ((V12.1 4 (ix x1)) - 1) else (0 : Int32))) fun (v13 : Int32) =>
 o_lt (bI V12 4 (upd (V12.1 4) (ix x1) v13)) fun (V14 : BC) =>
 some V14))
 else
 o_lt ((if (0 : Int32) < ((V.1 1 (ix x1)) - 6) then ((V.1 1 (ix x1)) - 6) else (0 : Int32))) fun (v15 : Int32) =>
 o_lt (bI V 1 (upd (V.1 1) (ix x1) v15)) fun (V16 : BC) =>
 o_lt ((if (((V16.1 4 (ix x1)) + ((V16.1 4 (ix x1)) / 4)) + 1) < (99 : Int32) then (((V16.1 4 (ix x1)) + ((V16.1 4 (ix x1)) / 4)) + 1) else (99 : Int32))) fun (v17 : Int32) =>
 o_lt (bI V16 4 (upd (V16.1 4) (ix x1) v17)) fun (V18 : BC) =>
 some V18)
 else
 (if (99 : Int32) ≤ (V.1 6 (ix x1)) then
 o_b1 (f_X1_isFull V x1) fun (r20 : Int32) =>
 (if r20 = 0 then
 (if (V.1 3 (ix x1)) ≤ (2 * (V.1 17 (ix x1))) then
 some V
 else
 (if (V.1 2 (ix x1)) ≤ (V.1 1 (ix x1)) then
 o_lt (V.1 1 (ix x1)) fun (v24 : Int32) =>
 o_lt (bI V 1 (upd (V.1 1) (ix x1) v24)) fun (V25 : BC) =>
 o_lt ((if (0 : Int32) < ((V25.1 4 (ix x1)) - 1) then ((V25.1 4 (ix x1)) - 1) else (0 : Int32))) fun (v26 : Int32) =>
 o_lt (bI V25 4 (upd (V25.1 4) (ix x1) v26)) fun (V27 : BC) =>
 some V27
 else
 o_lt ((if ((V.1 1 (ix x1)) + 3) < (V.1 2 (ix x1)) then ((V.1 1 (ix x1)) + 3) else (V.1 2 (ix x1)))) fun (v28 : Int32) =>
 o_lt (bI V 1 (upd (V.1 1) (ix x1) v28)) fun (V29 : BC) =>
 o_lt ((if (0 : Int32) < ((V29.1 4 (ix x1)) - 1) then ((V29.1 4 (ix x1)) - 1) else (0 : Int32))) fun (v30 : Int32) =>
 o_lt (bI V29 4 (upd (V29.1 4) (ix x1) v30)) fun (V31 : BC) =>
 some V31))
 else
 o_lt ((if (0 : Int32) < ((V.1 1 (ix x1)) - 6) then ((V.1 1 (ix x1)) - 6) else (0 : Int32))) fun (v32 : Int32) =>
 o_lt (bI V 1 (upd (V.1 1) (ix x1) v32)) fun (V33 : BC) =>
 o_lt ((if (((V33.1 4 (ix x1)) + ((V33.1 4 (ix x1)) / 4)) + 1) < (99 : Int32) then (((V33.1 4 (ix x1)) + ((V33.1 4 (ix x1)) / 4)) + 1) else (99 : Int32))) fun (v34 : Int32) =>
 o_lt (bI V33 4 (upd (V33.1 4) (ix x1) v34)) fun (V35 : BC) =>
 some V35)
 else
 (if (V.1 5 (ix x1)) ≤ (V.1 1 (ix x1)) then
 o_lt ((if (0 : Int32) < (V.1 1 (ix x1)) then (V.1 1 (ix x1)) else (0 : Int32))) fun (v37 : Int32) =>
 o_b1 (f_X1_gets V x1 v37) fun (V38 : BC) =>
 o_b1 (f_X1_isFull V38 x1) fun (r39 : Int32) =>
 (if r39 = 0 then
 (if (V38.1 3 (ix x1)) ≤ (2 * (V38.1 17 (ix x1))) then
 some V38
 else
 (if (V38.1 2 (ix x1)) ≤ (V38.1 1 (ix x1)) then
 o_lt (V38.1 1 (ix x1)) fun (v43 : Int32) =>
 o_lt (bI V38 1 (upd (V38.1 1) (ix x1) v43)) fun (V44 : BC) =>
 o_lt ((if (0 : Int32) < ((V44.1 4 (ix x1)) - 1) then ((V44.1 4 (ix x1)) - 1) else (0 : Int32))) fun (v45 : Int32) =>
 o_lt (bI V44 4 (upd (V44.1 4) (ix x1) v45)) fun (V46 : BC) =>
 some V46
 else
 o_lt ((if ((V38.1 1 (ix x1)) + 3) < (V38.1 2 (ix x1)) then ((V38.1 1 (ix x1)) + 3) else (V38.1 2 (ix x1)))) fun (v47 : Int32) =>
 o_lt (bI V38 1 (upd (V38.1 1) (ix x1) v47)) fun (V48 : BC) =>
 o_lt ((if (0 : Int32) < ((V48.1 4 (ix x1)) - 1) then ((V48.1 4 (ix x1)) - 1) else (0 : Int32))) fun (v49 : Int32) =>
 o_lt (bI V48 4 (upd (V48.1 4) (ix x1) v49)) fun (V50 : BC) =>
 some V50))
 else
 o_lt ((if (0 : Int32) < ((V38.1 1 (ix x1)) - 6) then ((V38.1 1 (ix x1)) - 6) else (0 : Int32))) fun (v51 : Int32) =>
 o_lt (bI V38 1 (upd (V38.1 1) (ix x1) v51)) fun (V52 : BC) =>
 o_lt ((if (((V52.1 4 (ix x1)) + ((V52.1 4 (ix x1)) / 4)) + 1) < (99 : Int32) then (((V52.1 4 (ix x1)) + ((V52.1 4 (ix x1)) / 4)) + 1) else (99 : Int32))) fun (v53 : Int32) =>
 o_lt (bI V52 4 (upd (V52.1 4) (ix x1) v53)) fun (V54 : BC) =>
 some V54)
 else
 o_lt ((if (0 : Int32) < ((V.1 1 (ix x1)) - 10) then ((V.1 1 (ix x1)) - 10) else (0 : Int32))) fun (v55 : Int32) =>
 o_b1 (f_X1_gets V x1 v55) fun (V56 : BC) =>
 o_b1 (f_X1_isFull V56 x1) fun (r57 : Int32) =>
 (if r57 = 0 then
 (if (V56.1 3 (ix x1)) ≤ (2 * (V56.1 17 (ix x1))) then
 some V56
 else
 (if (V56.1 2 (ix x1)) ≤ (V56.1 1 (ix x1)) then
 o_lt (V56.1 1 (ix x1)) fun (v61 : Int32) =>
 o_lt (bI V56 1 (upd (V56.1 1) (ix x1) v61)) fun (V62 : BC) =>
 o_lt ((if (0 : Int32) < ((V62.1 4 (ix x1)) - 1) then ((V62.1 4 (ix x1)) - 1) else (0 : Int32))) fun (v63 : Int32) =>
 o_lt (bI V62 4 (upd (V62.1 4) (ix x1) v63)) fun (V64 : BC) =>
 some V64
 else
 o_lt ((if ((V56.1 1 (ix x1)) + 3) < (V56.1 2 (ix x1)) then ((V56.1 1 (ix x1)) + 3) else (V56.1 2 (ix x1)))) fun (v65 : Int32) =>
 o_lt (bI V56 1 (upd (V56.1 1) (ix x1) v65)) fun (V66 : BC) =>
 o_lt ((if (0 : Int32) < ((V66.1 4 (ix x1)) - 1) then ((V66.1 4 (ix x1)) - 1) else (0 : Int32))) fun (v67 : Int32) =>
 o_lt (bI V66 4 (upd (V66.1 4) (ix x1) v67)) fun (V68 : BC) =>
 some V68))
 else
 o_lt ((if (0 : Int32) < ((V56.1 1 (ix x1)) - 6) then ((V56.1 1 (ix x1)) - 6) else (0 : Int32))) fun (v69 : Int32) =>
 o_lt (bI V56 1 (upd (V56.1 1) (ix x1) v69)) fun (V70 : BC) =>
 o_lt ((if (((V70.1 4 (ix x1)) + ((V70.1 4 (ix x1)) / 4)) + 1) < (99 : Int32) then (((V70.1 4 (ix x1)) + ((V70.1 4 (ix x1)) / 4)) + 1) else (99 : Int32))) fun (v71 : Int32) =>
 o_lt (bI V70 4 (upd (V70.1 4) (ix x1) v71)) fun (V72 : BC) =>
 some V72)))))
abbrev rm_X1_ages_2 : Room := { frames := 1, cells := 0, slots := 0, locals := 24 }
set_option maxHeartbeats 4000000 in
set_option maxRecDepth 100000 in
theorem m_X1_ages_2 (l : Launch) (D : va_G) (g : Nat → ClassId) (sz : Nat) (adV : Nat → Nat) (V : BC) (x1 : Int32) (VO : BC) (hf : f_X1_ages_2 V x1 = some VO) : bMet (S := Unit) l yX1_ages_2 (ws_ yX1_ages_2 cX1_ages_2 2 none) rm_X1_ages_2 D g sz [.ref (adV 0), .int x1] [vW g adV V] (fun _ => True) (fun _ => none) (fun _ => [vW g adV VO]) := by
  refine b_met (by decide) (Nat.le_of_ble_eq_true rfl) ?_
  intro p e s m args below meth c A Q ls hx hb hml hr hlk hown hname hts hE hl hW
  revert hW; generalize s.heap = H; intro hW
  have hl : lv_has ls 2 [(0, .ref (adV 0)), (1, .int x1)] := hl
  rw [f_X1_ages_2] at hf
  refine lv_aload_n hx hb dX1_ages_2_0 rfl (lv_at hl 0 rfl) ?_
  refine b_get hx hb hts in_X1 hown hW 0 0 1 10 rfl vW_0 rfl (by decide) ⟨rfl, rfl, rfl⟩ (hts _ q159) vW_g10 dX1_ages_2_1 ?_
  refine lv_iload_n hx hb dX1_ages_2_4 rfl (lv_at hl 1 rfl) ?_
  obtain ⟨h1, hf⟩ := o_cs hf
  refine b_iald hx hb hW 0 17 rfl vW_17 h1 dX1_ages_2_5 ?_
  refine lv_if_le (tgt := 62) hx hb dX1_ages_2_6 (by decide) (fun c2 => ?_) (fun c2 => ?_)
  · have hf := o_t hf c2
    refine lv_aload_n hx hb dX1_ages_2_62 rfl (lv_at hl 0 rfl) ?_
    refine lv_iload_n hx hb dX1_ages_2_63 rfl (lv_at hl 1 rfl) ?_
    obtain ⟨r3, hc3, hf⟩ := o_b1s hf
    have hp3 : List.Perm [vW g adV V] ([vW g adV V] ++ []) := b_perm [0] [] 1 rfl rfl rfl rfl
    refine b_call0 ⟨rfl, rfl⟩ (va_runV (As := [.int x1]) (rest := []) ⟨hx, hb, hml, hown, hts⟩ (m_X1_isFull l D g H.size adV V x1 r3 hc3) (cwV 1 hts (lw_V q1166 q1167 q1168 q77 q1169) rfl rfl rfl (by decide +kernel) ⟨Nat.le_of_ble_eq_true rfl, Nat.le_of_ble_eq_true rfl⟩) (b_preV (pp := 0) (q := 0) hW hp3 rfl vW_0 rfl) rfl rfl hl.1 rfl (lv_room (Nat.le_of_ble_eq_true rfl)) dX1_ages_2_64 ⟨Nat.le_of_ble_eq_true rfl, Nat.le_of_ble_eq_true rfl⟩) hW hp3 (fun _ _ H locs hW => ?_)
    have hW : bW D g A s H locs [vW g adV V] := hW
    refine lv_if_eq (tgt := 120) hx hb dX1_ages_2_67 (by decide) (fun c4 => ?_) (fun c4 => ?_)
    · have hf := o_t hf c4
      refine lv_iconst (v := 2) hx hb dX1_ages_2_120 (by decide) ?_
      refine lv_aload_n hx hb dX1_ages_2_121 rfl (lv_at hl 0 rfl) ?_
      refine b_get hx hb hts in_X1 hown hW 0 0 1 10 rfl vW_0 rfl (by decide) ⟨rfl, rfl, rfl⟩ (hts _ q159) vW_g10 dX1_ages_2_122 ?_
      refine lv_iload_n hx hb dX1_ages_2_125 rfl (lv_at hl 1 rfl) ?_
      refine b_iald hx hb hW 0 17 rfl vW_17 h1 dX1_ages_2_126 ?_
      refine lv_imul hx hb dX1_ages_2_127 ?_
      refine lv_aload_n hx hb dX1_ages_2_128 rfl (lv_at hl 0 rfl) ?_
      refine b_get hx hb hts in_X1 hown hW 0 0 1 2 rfl vW_0 rfl (by decide) ⟨rfl, rfl, rfl⟩ (hts _ q134) vW_g2 dX1_ages_2_129 ?_
      refine lv_iload_n hx hb dX1_ages_2_132 rfl (lv_at hl 1 rfl) ?_
      refine b_iald hx hb hW 0 3 rfl vW_3 h1 dX1_ages_2_133 ?_
      refine lv_icmp_ge (tgt := 202) hx hb dX1_ages_2_134 (by decide) (fun c5 => ?_) (fun c5 => ?_)
      · have hf := o_t hf c5
        cases hf
        exact b_vret hx hb hr hlk hE hW () rfl trivial rfl dX1_ages_2_202
      · have hf := o_f hf c5
        refine lv_aload_n hx hb dX1_ages_2_137 rfl (lv_at hl 0 rfl) ?_
        refine b_get hx hb hts in_X1 hown hW 0 0 1 0 rfl vW_0 rfl (by decide) ⟨rfl, rfl, rfl⟩ (hts _ q128) vW_g0 dX1_ages_2_138 ?_
        refine lv_iload_n hx hb dX1_ages_2_141 rfl (lv_at hl 1 rfl) ?_
        refine lv_aload_n hx hb dX1_ages_2_142 rfl (lv_at hl 0 rfl) ?_
        refine b_get hx hb hts in_X1 hown hW 0 0 1 0 rfl vW_0 rfl (by decide) ⟨rfl, rfl, rfl⟩ (hts _ q128) vW_g0 dX1_ages_2_143 ?_
        refine lv_iload_n hx hb dX1_ages_2_146 rfl (lv_at hl 1 rfl) ?_
        refine b_iald hx hb hW 0 1 rfl vW_1 h1 dX1_ages_2_147 ?_
        refine lv_aload_n hx hb dX1_ages_2_148 rfl (lv_at hl 0 rfl) ?_
        refine b_get hx hb hts in_X1 hown hW 0 0 1 1 rfl vW_0 rfl (by decide) ⟨rfl, rfl, rfl⟩ (hts _ q132) vW_g1 dX1_ages_2_149 ?_
        refine lv_iload_n hx hb dX1_ages_2_152 rfl (lv_at hl 1 rfl) ?_
        refine b_iald hx hb hW 0 2 rfl vW_2 h1 dX1_ages_2_153 ?_
        refine lv_icmp_ge (tgt := 177) hx hb dX1_ages_2_154 (by decide) (fun c6 => ?_) (fun c6 => ?_)
        · have hf := o_t hf c6
          refine lv_aload_n hx hb dX1_ages_2_177 rfl (lv_at hl 0 rfl) ?_
          refine b_get hx hb hts in_X1 hown hW 0 0 1 0 rfl vW_0 rfl (by decide) ⟨rfl, rfl, rfl⟩ (hts _ q128) vW_g0 dX1_ages_2_178 ?_
          refine lv_iload_n hx hb dX1_ages_2_181 rfl (lv_at hl 1 rfl) ?_
          refine b_iald hx hb hW 0 1 rfl vW_1 h1 dX1_ages_2_182 ?_
          obtain ⟨v7, ev7, hf⟩ := o_ls hf
          refine b_topi ev7 ?_
          obtain ⟨V8, eV8, hf⟩ := o_ls hf
          refine b_iast hx hb hW 0 1 rfl vW_1 (vW_s1 eV8) rfl h1 dX1_ages_2_183 (fun H locs hW => ?_)
          have hW : bW D g A s H locs [vW g adV V8] := hW
          refine lv_aload_n hx hb dX1_ages_2_184 rfl (lv_at hl 0 rfl) ?_
          refine b_get hx hb hts in_X1 hown hW 0 0 1 3 rfl vW_0 rfl (by decide) ⟨rfl, rfl, rfl⟩ (hts _ q136) vW_g3 dX1_ages_2_185 ?_
          refine lv_iload_n hx hb dX1_ages_2_188 rfl (lv_at hl 1 rfl) ?_
          refine lv_iconst (v := 0) hx hb dX1_ages_2_189 (by decide) ?_
          refine lv_aload_n hx hb dX1_ages_2_190 rfl (lv_at hl 0 rfl) ?_
          refine b_get hx hb hts in_X1 hown hW 0 0 1 3 rfl vW_0 rfl (by decide) ⟨rfl, rfl, rfl⟩ (hts _ q136) vW_g3 dX1_ages_2_191 ?_
          refine lv_iload_n hx hb dX1_ages_2_194 rfl (lv_at hl 1 rfl) ?_
          refine b_iald hx hb hW 0 4 rfl vW_4 h1 dX1_ages_2_195 ?_
          refine lv_iconst (v := 1) hx hb dX1_ages_2_196 (by decide) ?_
          refine lv_isub hx hb dX1_ages_2_197 ?_
          refine va_mmax hx hb (by rw [hml]; exact hl.1.symm) hown (hts _ q1288) (hts _ q560) (hts _ q92) (hts _ q561) (Nat.le_of_ble_eq_true rfl) (Nat.le_of_ble_eq_true rfl) (Nat.le_of_ble_eq_true rfl) (Nat.le_of_ble_eq_true rfl) dX1_ages_2_198 ?_
          obtain ⟨v9, ev9, hf⟩ := o_ls hf
          refine b_topi ev9 ?_
          obtain ⟨V10, eV10, hf⟩ := o_ls hf
          refine b_iast hx hb hW 0 4 rfl vW_4 (vW_s4 eV10) rfl h1 dX1_ages_2_201 (fun H locs hW => ?_)
          have hW : bW D g A s H locs [vW g adV V10] := hW
          cases hf
          exact b_vret hx hb hr hlk hE hW () rfl trivial rfl dX1_ages_2_202
        · have hf := o_f hf c6
          refine lv_aload_n hx hb dX1_ages_2_157 rfl (lv_at hl 0 rfl) ?_
          refine b_get hx hb hts in_X1 hown hW 0 0 1 1 rfl vW_0 rfl (by decide) ⟨rfl, rfl, rfl⟩ (hts _ q132) vW_g1 dX1_ages_2_158 ?_
          refine lv_iload_n hx hb dX1_ages_2_161 rfl (lv_at hl 1 rfl) ?_
          refine b_iald hx hb hW 0 2 rfl vW_2 h1 dX1_ages_2_162 ?_
          refine lv_aload_n hx hb dX1_ages_2_163 rfl (lv_at hl 0 rfl) ?_
          refine b_get hx hb hts in_X1 hown hW 0 0 1 0 rfl vW_0 rfl (by decide) ⟨rfl, rfl, rfl⟩ (hts _ q128) vW_g0 dX1_ages_2_164 ?_
          refine lv_iload_n hx hb dX1_ages_2_167 rfl (lv_at hl 1 rfl) ?_
          refine b_iald hx hb hW 0 1 rfl vW_1 h1 dX1_ages_2_168 ?_
          refine lv_iconst (v := 3) hx hb dX1_ages_2_169 (by decide) ?_
          refine lv_iadd hx hb dX1_ages_2_170 ?_
          refine va_mmin hx hb (by rw [hml]; exact hl.1.symm) hown (hts _ q1170) (hts _ q848) (hts _ q92) (hts _ q849) (Nat.le_of_ble_eq_true rfl) (Nat.le_of_ble_eq_true rfl) (Nat.le_of_ble_eq_true rfl) (Nat.le_of_ble_eq_true rfl) dX1_ages_2_171 ?_
          obtain ⟨v11, ev11, hf⟩ := o_ls hf
          refine b_topi ev11 ?_
          refine lv_goto (tgt := 183) hx hb dX1_ages_2_174 (by decide) ?_
          obtain ⟨V12, eV12, hf⟩ := o_ls hf
          refine b_iast hx hb hW 0 1 rfl vW_1 (vW_s1 eV12) rfl h1 dX1_ages_2_183 (fun H locs hW => ?_)
          have hW : bW D g A s H locs [vW g adV V12] := hW
          refine lv_aload_n hx hb dX1_ages_2_184 rfl (lv_at hl 0 rfl) ?_
          refine b_get hx hb hts in_X1 hown hW 0 0 1 3 rfl vW_0 rfl (by decide) ⟨rfl, rfl, rfl⟩ (hts _ q136) vW_g3 dX1_ages_2_185 ?_
          refine lv_iload_n hx hb dX1_ages_2_188 rfl (lv_at hl 1 rfl) ?_
          refine lv_iconst (v := 0) hx hb dX1_ages_2_189 (by decide) ?_
          refine lv_aload_n hx hb dX1_ages_2_190 rfl (lv_at hl 0 rfl) ?_
          refine b_get hx hb hts in_X1 hown hW 0 0 1 3 rfl vW_0 rfl (by decide) ⟨rfl, rfl, rfl⟩ (hts _ q136) vW_g3 dX1_ages_2_191 ?_
          refine lv_iload_n hx hb dX1_ages_2_194 rfl (lv_at hl 1 rfl) ?_
          refine b_iald hx hb hW 0 4 rfl vW_4 h1 dX1_ages_2_195 ?_
          refine lv_iconst (v := 1) hx hb dX1_ages_2_196 (by decide) ?_
          refine lv_isub hx hb dX1_ages_2_197 ?_
          refine va_mmax hx hb (by rw [hml]; exact hl.1.symm) hown (hts _ q1288) (hts _ q560) (hts _ q92) (hts _ q561) (Nat.le_of_ble_eq_true rfl) (Nat.le_of_ble_eq_true rfl) (Nat.le_of_ble_eq_true rfl) (Nat.le_of_ble_eq_true rfl) dX1_ages_2_198 ?_
          obtain ⟨v13, ev13, hf⟩ := o_ls hf
          refine b_topi ev13 ?_
          obtain ⟨V14, eV14, hf⟩ := o_ls hf
          refine b_iast hx hb hW 0 4 rfl vW_4 (vW_s4 eV14) rfl h1 dX1_ages_2_201 (fun H locs hW => ?_)
          have hW : bW D g A s H locs [vW g adV V14] := hW
          cases hf
          exact b_vret hx hb hr hlk hE hW () rfl trivial rfl dX1_ages_2_202
    · have hf := o_f hf c4
      refine lv_aload_n hx hb dX1_ages_2_70 rfl (lv_at hl 0 rfl) ?_
      refine b_get hx hb hts in_X1 hown hW 0 0 1 0 rfl vW_0 rfl (by decide) ⟨rfl, rfl, rfl⟩ (hts _ q128) vW_g0 dX1_ages_2_71 ?_
      refine lv_iload_n hx hb dX1_ages_2_74 rfl (lv_at hl 1 rfl) ?_
      refine lv_iconst (v := 0) hx hb dX1_ages_2_75 (by decide) ?_
      refine lv_aload_n hx hb dX1_ages_2_76 rfl (lv_at hl 0 rfl) ?_
      refine b_get hx hb hts in_X1 hown hW 0 0 1 0 rfl vW_0 rfl (by decide) ⟨rfl, rfl, rfl⟩ (hts _ q128) vW_g0 dX1_ages_2_77 ?_
      refine lv_iload_n hx hb dX1_ages_2_80 rfl (lv_at hl 1 rfl) ?_
      refine b_iald hx hb hW 0 1 rfl vW_1 h1 dX1_ages_2_81 ?_
      refine lv_bipush (v := 6) hx hb dX1_ages_2_82 (by decide) ?_
      refine lv_isub hx hb dX1_ages_2_84 ?_
      refine va_mmax hx hb (by rw [hml]; exact hl.1.symm) hown (hts _ q1288) (hts _ q560) (hts _ q92) (hts _ q561) (Nat.le_of_ble_eq_true rfl) (Nat.le_of_ble_eq_true rfl) (Nat.le_of_ble_eq_true rfl) (Nat.le_of_ble_eq_true rfl) dX1_ages_2_85 ?_
      obtain ⟨v15, ev15, hf⟩ := o_ls hf
      refine b_topi ev15 ?_
      obtain ⟨V16, eV16, hf⟩ := o_ls hf
      refine b_iast hx hb hW 0 1 rfl vW_1 (vW_s1 eV16) rfl h1 dX1_ages_2_88 (fun H locs hW => ?_)
      have hW : bW D g A s H locs [vW g adV V16] := hW
      refine lv_aload_n hx hb dX1_ages_2_89 rfl (lv_at hl 0 rfl) ?_
      refine b_get hx hb hts in_X1 hown hW 0 0 1 3 rfl vW_0 rfl (by decide) ⟨rfl, rfl, rfl⟩ (hts _ q136) vW_g3 dX1_ages_2_90 ?_
      refine lv_iload_n hx hb dX1_ages_2_93 rfl (lv_at hl 1 rfl) ?_
      refine lv_bipush (v := 99) hx hb dX1_ages_2_94 (by decide) ?_
      refine lv_aload_n hx hb dX1_ages_2_96 rfl (lv_at hl 0 rfl) ?_
      refine b_get hx hb hts in_X1 hown hW 0 0 1 3 rfl vW_0 rfl (by decide) ⟨rfl, rfl, rfl⟩ (hts _ q136) vW_g3 dX1_ages_2_97 ?_
      refine lv_iload_n hx hb dX1_ages_2_100 rfl (lv_at hl 1 rfl) ?_
      refine b_iald hx hb hW 0 4 rfl vW_4 h1 dX1_ages_2_101 ?_
      refine lv_aload_n hx hb dX1_ages_2_102 rfl (lv_at hl 0 rfl) ?_
      refine b_get hx hb hts in_X1 hown hW 0 0 1 3 rfl vW_0 rfl (by decide) ⟨rfl, rfl, rfl⟩ (hts _ q136) vW_g3 dX1_ages_2_103 ?_
      refine lv_iload_n hx hb dX1_ages_2_106 rfl (lv_at hl 1 rfl) ?_
      refine b_iald hx hb hW 0 4 rfl vW_4 h1 dX1_ages_2_107 ?_
      refine lv_iconst (v := 4) hx hb dX1_ages_2_108 (by decide) ?_
      refine lv_idiv hx hb dX1_ages_2_109 (by decide) ?_
      refine lv_iadd hx hb dX1_ages_2_110 ?_
      refine lv_iconst (v := 1) hx hb dX1_ages_2_111 (by decide) ?_
      refine lv_iadd hx hb dX1_ages_2_112 ?_
      refine va_mmin hx hb (by rw [hml]; exact hl.1.symm) hown (hts _ q1170) (hts _ q848) (hts _ q92) (hts _ q849) (Nat.le_of_ble_eq_true rfl) (Nat.le_of_ble_eq_true rfl) (Nat.le_of_ble_eq_true rfl) (Nat.le_of_ble_eq_true rfl) dX1_ages_2_113 ?_
      obtain ⟨v17, ev17, hf⟩ := o_ls hf
      refine b_topi ev17 ?_
      obtain ⟨V18, eV18, hf⟩ := o_ls hf
      refine b_iast hx hb hW 0 4 rfl vW_4 (vW_s4 eV18) rfl h1 dX1_ages_2_116 (fun H locs hW => ?_)
      have hW : bW D g A s H locs [vW g adV V18] := hW
      refine lv_goto (tgt := 202) hx hb dX1_ages_2_117 (by decide) ?_
      cases hf
      exact b_vret hx hb hr hlk hE hW () rfl trivial rfl dX1_ages_2_202
  · have hf := o_f hf c2
    refine lv_aload_n hx hb dX1_ages_2_9 rfl (lv_at hl 0 rfl) ?_
    refine b_get hx hb hts in_X1 hown hW 0 0 1 5 rfl vW_0 rfl (by decide) ⟨rfl, rfl, rfl⟩ (hts _ q146) vW_g5 dX1_ages_2_10 ?_
    refine lv_iload_n hx hb dX1_ages_2_13 rfl (lv_at hl 1 rfl) ?_
    refine b_iald hx hb hW 0 6 rfl vW_6 h1 dX1_ages_2_14 ?_
    refine lv_bipush (v := 99) hx hb dX1_ages_2_15 (by decide) ?_
    refine lv_icmp_ge (tgt := 62) hx hb dX1_ages_2_17 (by decide) (fun c19 => ?_) (fun c19 => ?_)
    · have hf := o_t hf c19
      refine lv_aload_n hx hb dX1_ages_2_62 rfl (lv_at hl 0 rfl) ?_
      refine lv_iload_n hx hb dX1_ages_2_63 rfl (lv_at hl 1 rfl) ?_
      obtain ⟨r20, hc20, hf⟩ := o_b1s hf
      have hp20 : List.Perm [vW g adV V] ([vW g adV V] ++ []) := b_perm [0] [] 1 rfl rfl rfl rfl
      refine b_call0 ⟨rfl, rfl⟩ (va_runV (As := [.int x1]) (rest := []) ⟨hx, hb, hml, hown, hts⟩ (m_X1_isFull l D g H.size adV V x1 r20 hc20) (cwV 1 hts (lw_V q1166 q1167 q1168 q77 q1169) rfl rfl rfl (by decide +kernel) ⟨Nat.le_of_ble_eq_true rfl, Nat.le_of_ble_eq_true rfl⟩) (b_preV (pp := 0) (q := 0) hW hp20 rfl vW_0 rfl) rfl rfl hl.1 rfl (lv_room (Nat.le_of_ble_eq_true rfl)) dX1_ages_2_64 ⟨Nat.le_of_ble_eq_true rfl, Nat.le_of_ble_eq_true rfl⟩) hW hp20 (fun _ _ H locs hW => ?_)
      have hW : bW D g A s H locs [vW g adV V] := hW
      refine lv_if_eq (tgt := 120) hx hb dX1_ages_2_67 (by decide) (fun c21 => ?_) (fun c21 => ?_)
      · have hf := o_t hf c21
        refine lv_iconst (v := 2) hx hb dX1_ages_2_120 (by decide) ?_
        refine lv_aload_n hx hb dX1_ages_2_121 rfl (lv_at hl 0 rfl) ?_
        refine b_get hx hb hts in_X1 hown hW 0 0 1 10 rfl vW_0 rfl (by decide) ⟨rfl, rfl, rfl⟩ (hts _ q159) vW_g10 dX1_ages_2_122 ?_
        refine lv_iload_n hx hb dX1_ages_2_125 rfl (lv_at hl 1 rfl) ?_
        refine b_iald hx hb hW 0 17 rfl vW_17 h1 dX1_ages_2_126 ?_
        refine lv_imul hx hb dX1_ages_2_127 ?_
        refine lv_aload_n hx hb dX1_ages_2_128 rfl (lv_at hl 0 rfl) ?_
        refine b_get hx hb hts in_X1 hown hW 0 0 1 2 rfl vW_0 rfl (by decide) ⟨rfl, rfl, rfl⟩ (hts _ q134) vW_g2 dX1_ages_2_129 ?_
        refine lv_iload_n hx hb dX1_ages_2_132 rfl (lv_at hl 1 rfl) ?_
        refine b_iald hx hb hW 0 3 rfl vW_3 h1 dX1_ages_2_133 ?_
        refine lv_icmp_ge (tgt := 202) hx hb dX1_ages_2_134 (by decide) (fun c22 => ?_) (fun c22 => ?_)
        · have hf := o_t hf c22
          cases hf
          exact b_vret hx hb hr hlk hE hW () rfl trivial rfl dX1_ages_2_202
        · have hf := o_f hf c22
          refine lv_aload_n hx hb dX1_ages_2_137 rfl (lv_at hl 0 rfl) ?_
          refine b_get hx hb hts in_X1 hown hW 0 0 1 0 rfl vW_0 rfl (by decide) ⟨rfl, rfl, rfl⟩ (hts _ q128) vW_g0 dX1_ages_2_138 ?_
          refine lv_iload_n hx hb dX1_ages_2_141 rfl (lv_at hl 1 rfl) ?_
          refine lv_aload_n hx hb dX1_ages_2_142 rfl (lv_at hl 0 rfl) ?_
          refine b_get hx hb hts in_X1 hown hW 0 0 1 0 rfl vW_0 rfl (by decide) ⟨rfl, rfl, rfl⟩ (hts _ q128) vW_g0 dX1_ages_2_143 ?_
          refine lv_iload_n hx hb dX1_ages_2_146 rfl (lv_at hl 1 rfl) ?_
          refine b_iald hx hb hW 0 1 rfl vW_1 h1 dX1_ages_2_147 ?_
          refine lv_aload_n hx hb dX1_ages_2_148 rfl (lv_at hl 0 rfl) ?_
          refine b_get hx hb hts in_X1 hown hW 0 0 1 1 rfl vW_0 rfl (by decide) ⟨rfl, rfl, rfl⟩ (hts _ q132) vW_g1 dX1_ages_2_149 ?_
          refine lv_iload_n hx hb dX1_ages_2_152 rfl (lv_at hl 1 rfl) ?_
          refine b_iald hx hb hW 0 2 rfl vW_2 h1 dX1_ages_2_153 ?_
          refine lv_icmp_ge (tgt := 177) hx hb dX1_ages_2_154 (by decide) (fun c23 => ?_) (fun c23 => ?_)
          · have hf := o_t hf c23
            refine lv_aload_n hx hb dX1_ages_2_177 rfl (lv_at hl 0 rfl) ?_
            refine b_get hx hb hts in_X1 hown hW 0 0 1 0 rfl vW_0 rfl (by decide) ⟨rfl, rfl, rfl⟩ (hts _ q128) vW_g0 dX1_ages_2_178 ?_
            refine lv_iload_n hx hb dX1_ages_2_181 rfl (lv_at hl 1 rfl) ?_
            refine b_iald hx hb hW 0 1 rfl vW_1 h1 dX1_ages_2_182 ?_
            obtain ⟨v24, ev24, hf⟩ := o_ls hf
            refine b_topi ev24 ?_
            obtain ⟨V25, eV25, hf⟩ := o_ls hf
            refine b_iast hx hb hW 0 1 rfl vW_1 (vW_s1 eV25) rfl h1 dX1_ages_2_183 (fun H locs hW => ?_)
            have hW : bW D g A s H locs [vW g adV V25] := hW
            refine lv_aload_n hx hb dX1_ages_2_184 rfl (lv_at hl 0 rfl) ?_
            refine b_get hx hb hts in_X1 hown hW 0 0 1 3 rfl vW_0 rfl (by decide) ⟨rfl, rfl, rfl⟩ (hts _ q136) vW_g3 dX1_ages_2_185 ?_
            refine lv_iload_n hx hb dX1_ages_2_188 rfl (lv_at hl 1 rfl) ?_
            refine lv_iconst (v := 0) hx hb dX1_ages_2_189 (by decide) ?_
            refine lv_aload_n hx hb dX1_ages_2_190 rfl (lv_at hl 0 rfl) ?_
            refine b_get hx hb hts in_X1 hown hW 0 0 1 3 rfl vW_0 rfl (by decide) ⟨rfl, rfl, rfl⟩ (hts _ q136) vW_g3 dX1_ages_2_191 ?_
            refine lv_iload_n hx hb dX1_ages_2_194 rfl (lv_at hl 1 rfl) ?_
            refine b_iald hx hb hW 0 4 rfl vW_4 h1 dX1_ages_2_195 ?_
            refine lv_iconst (v := 1) hx hb dX1_ages_2_196 (by decide) ?_
            refine lv_isub hx hb dX1_ages_2_197 ?_
            refine va_mmax hx hb (by rw [hml]; exact hl.1.symm) hown (hts _ q1288) (hts _ q560) (hts _ q92) (hts _ q561) (Nat.le_of_ble_eq_true rfl) (Nat.le_of_ble_eq_true rfl) (Nat.le_of_ble_eq_true rfl) (Nat.le_of_ble_eq_true rfl) dX1_ages_2_198 ?_
            obtain ⟨v26, ev26, hf⟩ := o_ls hf
            refine b_topi ev26 ?_
            obtain ⟨V27, eV27, hf⟩ := o_ls hf
            refine b_iast hx hb hW 0 4 rfl vW_4 (vW_s4 eV27) rfl h1 dX1_ages_2_201 (fun H locs hW => ?_)
            have hW : bW D g A s H locs [vW g adV V27] := hW
            cases hf
            exact b_vret hx hb hr hlk hE hW () rfl trivial rfl dX1_ages_2_202
          · have hf := o_f hf c23
            refine lv_aload_n hx hb dX1_ages_2_157 rfl (lv_at hl 0 rfl) ?_
            refine b_get hx hb hts in_X1 hown hW 0 0 1 1 rfl vW_0 rfl (by decide) ⟨rfl, rfl, rfl⟩ (hts _ q132) vW_g1 dX1_ages_2_158 ?_
            refine lv_iload_n hx hb dX1_ages_2_161 rfl (lv_at hl 1 rfl) ?_
            refine b_iald hx hb hW 0 2 rfl vW_2 h1 dX1_ages_2_162 ?_
            refine lv_aload_n hx hb dX1_ages_2_163 rfl (lv_at hl 0 rfl) ?_
            refine b_get hx hb hts in_X1 hown hW 0 0 1 0 rfl vW_0 rfl (by decide) ⟨rfl, rfl, rfl⟩ (hts _ q128) vW_g0 dX1_ages_2_164 ?_
            refine lv_iload_n hx hb dX1_ages_2_167 rfl (lv_at hl 1 rfl) ?_
            refine b_iald hx hb hW 0 1 rfl vW_1 h1 dX1_ages_2_168 ?_
            refine lv_iconst (v := 3) hx hb dX1_ages_2_169 (by decide) ?_
            refine lv_iadd hx hb dX1_ages_2_170 ?_
            refine va_mmin hx hb (by rw [hml]; exact hl.1.symm) hown (hts _ q1170) (hts _ q848) (hts _ q92) (hts _ q849) (Nat.le_of_ble_eq_true rfl) (Nat.le_of_ble_eq_true rfl) (Nat.le_of_ble_eq_true rfl) (Nat.le_of_ble_eq_true rfl) dX1_ages_2_171 ?_
            obtain ⟨v28, ev28, hf⟩ := o_ls hf
            refine b_topi ev28 ?_
            refine lv_goto (tgt := 183) hx hb dX1_ages_2_174 (by decide) ?_
            obtain ⟨V29, eV29, hf⟩ := o_ls hf
            refine b_iast hx hb hW 0 1 rfl vW_1 (vW_s1 eV29) rfl h1 dX1_ages_2_183 (fun H locs hW => ?_)
            have hW : bW D g A s H locs [vW g adV V29] := hW
            refine lv_aload_n hx hb dX1_ages_2_184 rfl (lv_at hl 0 rfl) ?_
            refine b_get hx hb hts in_X1 hown hW 0 0 1 3 rfl vW_0 rfl (by decide) ⟨rfl, rfl, rfl⟩ (hts _ q136) vW_g3 dX1_ages_2_185 ?_
            refine lv_iload_n hx hb dX1_ages_2_188 rfl (lv_at hl 1 rfl) ?_
            refine lv_iconst (v := 0) hx hb dX1_ages_2_189 (by decide) ?_
            refine lv_aload_n hx hb dX1_ages_2_190 rfl (lv_at hl 0 rfl) ?_
            refine b_get hx hb hts in_X1 hown hW 0 0 1 3 rfl vW_0 rfl (by decide) ⟨rfl, rfl, rfl⟩ (hts _ q136) vW_g3 dX1_ages_2_191 ?_
            refine lv_iload_n hx hb dX1_ages_2_194 rfl (lv_at hl 1 rfl) ?_
            refine b_iald hx hb hW 0 4 rfl vW_4 h1 dX1_ages_2_195 ?_
            refine lv_iconst (v := 1) hx hb dX1_ages_2_196 (by decide) ?_
            refine lv_isub hx hb dX1_ages_2_197 ?_
            refine va_mmax hx hb (by rw [hml]; exact hl.1.symm) hown (hts _ q1288) (hts _ q560) (hts _ q92) (hts _ q561) (Nat.le_of_ble_eq_true rfl) (Nat.le_of_ble_eq_true rfl) (Nat.le_of_ble_eq_true rfl) (Nat.le_of_ble_eq_true rfl) dX1_ages_2_198 ?_
            obtain ⟨v30, ev30, hf⟩ := o_ls hf
            refine b_topi ev30 ?_
            obtain ⟨V31, eV31, hf⟩ := o_ls hf
            refine b_iast hx hb hW 0 4 rfl vW_4 (vW_s4 eV31) rfl h1 dX1_ages_2_201 (fun H locs hW => ?_)
            have hW : bW D g A s H locs [vW g adV V31] := hW
            cases hf
            exact b_vret hx hb hr hlk hE hW () rfl trivial rfl dX1_ages_2_202
      · have hf := o_f hf c21
        refine lv_aload_n hx hb dX1_ages_2_70 rfl (lv_at hl 0 rfl) ?_
        refine b_get hx hb hts in_X1 hown hW 0 0 1 0 rfl vW_0 rfl (by decide) ⟨rfl, rfl, rfl⟩ (hts _ q128) vW_g0 dX1_ages_2_71 ?_
        refine lv_iload_n hx hb dX1_ages_2_74 rfl (lv_at hl 1 rfl) ?_
        refine lv_iconst (v := 0) hx hb dX1_ages_2_75 (by decide) ?_
        refine lv_aload_n hx hb dX1_ages_2_76 rfl (lv_at hl 0 rfl) ?_
        refine b_get hx hb hts in_X1 hown hW 0 0 1 0 rfl vW_0 rfl (by decide) ⟨rfl, rfl, rfl⟩ (hts _ q128) vW_g0 dX1_ages_2_77 ?_
        refine lv_iload_n hx hb dX1_ages_2_80 rfl (lv_at hl 1 rfl) ?_
        refine b_iald hx hb hW 0 1 rfl vW_1 h1 dX1_ages_2_81 ?_
        refine lv_bipush (v := 6) hx hb dX1_ages_2_82 (by decide) ?_
        refine lv_isub hx hb dX1_ages_2_84 ?_
        refine va_mmax hx hb (by rw [hml]; exact hl.1.symm) hown (hts _ q1288) (hts _ q560) (hts _ q92) (hts _ q561) (Nat.le_of_ble_eq_true rfl) (Nat.le_of_ble_eq_true rfl) (Nat.le_of_ble_eq_true rfl) (Nat.le_of_ble_eq_true rfl) dX1_ages_2_85 ?_
        obtain ⟨v32, ev32, hf⟩ := o_ls hf
        refine b_topi ev32 ?_
        obtain ⟨V33, eV33, hf⟩ := o_ls hf
        refine b_iast hx hb hW 0 1 rfl vW_1 (vW_s1 eV33) rfl h1 dX1_ages_2_88 (fun H locs hW => ?_)
        have hW : bW D g A s H locs [vW g adV V33] := hW
        refine lv_aload_n hx hb dX1_ages_2_89 rfl (lv_at hl 0 rfl) ?_
        refine b_get hx hb hts in_X1 hown hW 0 0 1 3 rfl vW_0 rfl (by decide) ⟨rfl, rfl, rfl⟩ (hts _ q136) vW_g3 dX1_ages_2_90 ?_
        refine lv_iload_n hx hb dX1_ages_2_93 rfl (lv_at hl 1 rfl) ?_
        refine lv_bipush (v := 99) hx hb dX1_ages_2_94 (by decide) ?_
        refine lv_aload_n hx hb dX1_ages_2_96 rfl (lv_at hl 0 rfl) ?_
        refine b_get hx hb hts in_X1 hown hW 0 0 1 3 rfl vW_0 rfl (by decide) ⟨rfl, rfl, rfl⟩ (hts _ q136) vW_g3 dX1_ages_2_97 ?_
        refine lv_iload_n hx hb dX1_ages_2_100 rfl (lv_at hl 1 rfl) ?_
        refine b_iald hx hb hW 0 4 rfl vW_4 h1 dX1_ages_2_101 ?_
        refine lv_aload_n hx hb dX1_ages_2_102 rfl (lv_at hl 0 rfl) ?_
        refine b_get hx hb hts in_X1 hown hW 0 0 1 3 rfl vW_0 rfl (by decide) ⟨rfl, rfl, rfl⟩ (hts _ q136) vW_g3 dX1_ages_2_103 ?_
        refine lv_iload_n hx hb dX1_ages_2_106 rfl (lv_at hl 1 rfl) ?_
        refine b_iald hx hb hW 0 4 rfl vW_4 h1 dX1_ages_2_107 ?_
        refine lv_iconst (v := 4) hx hb dX1_ages_2_108 (by decide) ?_
        refine lv_idiv hx hb dX1_ages_2_109 (by decide) ?_
        refine lv_iadd hx hb dX1_ages_2_110 ?_
        refine lv_iconst (v := 1) hx hb dX1_ages_2_111 (by decide) ?_
        refine lv_iadd hx hb dX1_ages_2_112 ?_
        refine va_mmin hx hb (by rw [hml]; exact hl.1.symm) hown (hts _ q1170) (hts _ q848) (hts _ q92) (hts _ q849) (Nat.le_of_ble_eq_true rfl) (Nat.le_of_ble_eq_true rfl) (Nat.le_of_ble_eq_true rfl) (Nat.le_of_ble_eq_true rfl) dX1_ages_2_113 ?_
        obtain ⟨v34, ev34, hf⟩ := o_ls hf
        refine b_topi ev34 ?_
        obtain ⟨V35, eV35, hf⟩ := o_ls hf
        refine b_iast hx hb hW 0 4 rfl vW_4 (vW_s4 eV35) rfl h1 dX1_ages_2_116 (fun H locs hW => ?_)
        have hW : bW D g A s H locs [vW g adV V35] := hW
        refine lv_goto (tgt := 202) hx hb dX1_ages_2_117 (by decide) ?_
        cases hf
        exact b_vret hx hb hr hlk hE hW () rfl trivial rfl dX1_ages_2_202
    · have hf := o_f hf c19
      refine lv_aload_n hx hb dX1_ages_2_20 rfl (lv_at hl 0 rfl) ?_
      refine lv_iload_n hx hb dX1_ages_2_21 rfl (lv_at hl 1 rfl) ?_
      refine lv_iconst (v := 0) hx hb dX1_ages_2_22 (by decide) ?_
      refine lv_aload_n hx hb dX1_ages_2_23 rfl (lv_at hl 0 rfl) ?_
      refine b_get hx hb hts in_X1 hown hW 0 0 1 0 rfl vW_0 rfl (by decide) ⟨rfl, rfl, rfl⟩ (hts _ q128) vW_g0 dX1_ages_2_24 ?_
      refine lv_iload_n hx hb dX1_ages_2_27 rfl (lv_at hl 1 rfl) ?_
      refine b_iald hx hb hW 0 1 rfl vW_1 h1 dX1_ages_2_28 ?_
      refine lv_aload_n hx hb dX1_ages_2_29 rfl (lv_at hl 0 rfl) ?_
      refine b_get hx hb hts in_X1 hown hW 0 0 1 4 rfl vW_0 rfl (by decide) ⟨rfl, rfl, rfl⟩ (hts _ q140) vW_g4 dX1_ages_2_30 ?_
      refine lv_iload_n hx hb dX1_ages_2_33 rfl (lv_at hl 1 rfl) ?_
      refine b_iald hx hb hW 0 5 rfl vW_5 h1 dX1_ages_2_34 ?_
      refine lv_icmp_ge (tgt := 50) hx hb dX1_ages_2_35 (by decide) (fun c36 => ?_) (fun c36 => ?_)
      · have hf := o_t hf c36
        refine lv_aload_n hx hb dX1_ages_2_50 rfl (lv_at hl 0 rfl) ?_
        refine b_get hx hb hts in_X1 hown hW 0 0 1 0 rfl vW_0 rfl (by decide) ⟨rfl, rfl, rfl⟩ (hts _ q128) vW_g0 dX1_ages_2_51 ?_
        refine lv_iload_n hx hb dX1_ages_2_54 rfl (lv_at hl 1 rfl) ?_
        refine b_iald hx hb hW 0 1 rfl vW_1 h1 dX1_ages_2_55 ?_
        refine va_mmax hx hb (by rw [hml]; exact hl.1.symm) hown (hts _ q1288) (hts _ q560) (hts _ q92) (hts _ q561) (Nat.le_of_ble_eq_true rfl) (Nat.le_of_ble_eq_true rfl) (Nat.le_of_ble_eq_true rfl) (Nat.le_of_ble_eq_true rfl) dX1_ages_2_56 ?_
        obtain ⟨v37, ev37, hf⟩ := o_ls hf
        refine b_topi ev37 ?_
        obtain ⟨V38, hc38, hf⟩ := o_b1s hf
        have hp38 : List.Perm [vW g adV V] ([vW g adV V] ++ []) := b_perm [0] [] 1 rfl rfl rfl rfl
        refine b_call0 ⟨rfl, rfl⟩ (va_runV (As := [.int x1, .int v37]) (rest := []) ⟨hx, hb, hml, hown, hts⟩ (m_X1_gets l D g H.size adV V x1 v37 V38 hc38) (cwV 2 hts (lw_V q1289 q701 q702 q77 q703) rfl rfl rfl (by decide +kernel) ⟨Nat.le_of_ble_eq_true rfl, Nat.le_of_ble_eq_true rfl⟩) (b_preV (pp := 0) (q := 0) hW hp38 rfl vW_0 rfl) rfl rfl hl.1 rfl (lv_room (Nat.le_of_ble_eq_true rfl)) dX1_ages_2_59 ⟨Nat.le_of_ble_eq_true rfl, Nat.le_of_ble_eq_true rfl⟩) hW hp38 (fun _ _ H locs hW => ?_)
        have hW : bW D g A s H locs [vW g adV V38] := hW
        refine lv_aload_n hx hb dX1_ages_2_62 rfl (lv_at hl 0 rfl) ?_
        refine lv_iload_n hx hb dX1_ages_2_63 rfl (lv_at hl 1 rfl) ?_
        obtain ⟨r39, hc39, hf⟩ := o_b1s hf
        have hp39 : List.Perm [vW g adV V38] ([vW g adV V38] ++ []) := b_perm [0] [] 1 rfl rfl rfl rfl
        refine b_call0 ⟨rfl, rfl⟩ (va_runV (As := [.int x1]) (rest := []) ⟨hx, hb, hml, hown, hts⟩ (m_X1_isFull l D g H.size adV V38 x1 r39 hc39) (cwV 1 hts (lw_V q1166 q1167 q1168 q77 q1169) rfl rfl rfl (by decide +kernel) ⟨Nat.le_of_ble_eq_true rfl, Nat.le_of_ble_eq_true rfl⟩) (b_preV (pp := 0) (q := 0) hW hp39 rfl vW_0 rfl) rfl rfl hl.1 rfl (lv_room (Nat.le_of_ble_eq_true rfl)) dX1_ages_2_64 ⟨Nat.le_of_ble_eq_true rfl, Nat.le_of_ble_eq_true rfl⟩) hW hp39 (fun _ _ H locs hW => ?_)
        have hW : bW D g A s H locs [vW g adV V38] := hW
        refine lv_if_eq (tgt := 120) hx hb dX1_ages_2_67 (by decide) (fun c40 => ?_) (fun c40 => ?_)
        · have hf := o_t hf c40
          refine lv_iconst (v := 2) hx hb dX1_ages_2_120 (by decide) ?_
          refine lv_aload_n hx hb dX1_ages_2_121 rfl (lv_at hl 0 rfl) ?_
          refine b_get hx hb hts in_X1 hown hW 0 0 1 10 rfl vW_0 rfl (by decide) ⟨rfl, rfl, rfl⟩ (hts _ q159) vW_g10 dX1_ages_2_122 ?_
          refine lv_iload_n hx hb dX1_ages_2_125 rfl (lv_at hl 1 rfl) ?_
          refine b_iald hx hb hW 0 17 rfl vW_17 h1 dX1_ages_2_126 ?_
          refine lv_imul hx hb dX1_ages_2_127 ?_
          refine lv_aload_n hx hb dX1_ages_2_128 rfl (lv_at hl 0 rfl) ?_
          refine b_get hx hb hts in_X1 hown hW 0 0 1 2 rfl vW_0 rfl (by decide) ⟨rfl, rfl, rfl⟩ (hts _ q134) vW_g2 dX1_ages_2_129 ?_
          refine lv_iload_n hx hb dX1_ages_2_132 rfl (lv_at hl 1 rfl) ?_
          refine b_iald hx hb hW 0 3 rfl vW_3 h1 dX1_ages_2_133 ?_
          refine lv_icmp_ge (tgt := 202) hx hb dX1_ages_2_134 (by decide) (fun c41 => ?_) (fun c41 => ?_)
          · have hf := o_t hf c41
            cases hf
            exact b_vret hx hb hr hlk hE hW () rfl trivial rfl dX1_ages_2_202
          · have hf := o_f hf c41
            refine lv_aload_n hx hb dX1_ages_2_137 rfl (lv_at hl 0 rfl) ?_
            refine b_get hx hb hts in_X1 hown hW 0 0 1 0 rfl vW_0 rfl (by decide) ⟨rfl, rfl, rfl⟩ (hts _ q128) vW_g0 dX1_ages_2_138 ?_
            refine lv_iload_n hx hb dX1_ages_2_141 rfl (lv_at hl 1 rfl) ?_
            refine lv_aload_n hx hb dX1_ages_2_142 rfl (lv_at hl 0 rfl) ?_
            refine b_get hx hb hts in_X1 hown hW 0 0 1 0 rfl vW_0 rfl (by decide) ⟨rfl, rfl, rfl⟩ (hts _ q128) vW_g0 dX1_ages_2_143 ?_
            refine lv_iload_n hx hb dX1_ages_2_146 rfl (lv_at hl 1 rfl) ?_
            refine b_iald hx hb hW 0 1 rfl vW_1 h1 dX1_ages_2_147 ?_
            refine lv_aload_n hx hb dX1_ages_2_148 rfl (lv_at hl 0 rfl) ?_
            refine b_get hx hb hts in_X1 hown hW 0 0 1 1 rfl vW_0 rfl (by decide) ⟨rfl, rfl, rfl⟩ (hts _ q132) vW_g1 dX1_ages_2_149 ?_
            refine lv_iload_n hx hb dX1_ages_2_152 rfl (lv_at hl 1 rfl) ?_
            refine b_iald hx hb hW 0 2 rfl vW_2 h1 dX1_ages_2_153 ?_
            refine lv_icmp_ge (tgt := 177) hx hb dX1_ages_2_154 (by decide) (fun c42 => ?_) (fun c42 => ?_)
            · have hf := o_t hf c42
              refine lv_aload_n hx hb dX1_ages_2_177 rfl (lv_at hl 0 rfl) ?_
              refine b_get hx hb hts in_X1 hown hW 0 0 1 0 rfl vW_0 rfl (by decide) ⟨rfl, rfl, rfl⟩ (hts _ q128) vW_g0 dX1_ages_2_178 ?_
              refine lv_iload_n hx hb dX1_ages_2_181 rfl (lv_at hl 1 rfl) ?_
              refine b_iald hx hb hW 0 1 rfl vW_1 h1 dX1_ages_2_182 ?_
              obtain ⟨v43, ev43, hf⟩ := o_ls hf
              refine b_topi ev43 ?_
              obtain ⟨V44, eV44, hf⟩ := o_ls hf
              refine b_iast hx hb hW 0 1 rfl vW_1 (vW_s1 eV44) rfl h1 dX1_ages_2_183 (fun H locs hW => ?_)
              have hW : bW D g A s H locs [vW g adV V44] := hW
              refine lv_aload_n hx hb dX1_ages_2_184 rfl (lv_at hl 0 rfl) ?_
              refine b_get hx hb hts in_X1 hown hW 0 0 1 3 rfl vW_0 rfl (by decide) ⟨rfl, rfl, rfl⟩ (hts _ q136) vW_g3 dX1_ages_2_185 ?_
              refine lv_iload_n hx hb dX1_ages_2_188 rfl (lv_at hl 1 rfl) ?_
              refine lv_iconst (v := 0) hx hb dX1_ages_2_189 (by decide) ?_
              refine lv_aload_n hx hb dX1_ages_2_190 rfl (lv_at hl 0 rfl) ?_
              refine b_get hx hb hts in_X1 hown hW 0 0 1 3 rfl vW_0 rfl (by decide) ⟨rfl, rfl, rfl⟩ (hts _ q136) vW_g3 dX1_ages_2_191 ?_
              refine lv_iload_n hx hb dX1_ages_2_194 rfl (lv_at hl 1 rfl) ?_
              refine b_iald hx hb hW 0 4 rfl vW_4 h1 dX1_ages_2_195 ?_
              refine lv_iconst (v := 1) hx hb dX1_ages_2_196 (by decide) ?_
              refine lv_isub hx hb dX1_ages_2_197 ?_
              refine va_mmax hx hb (by rw [hml]; exact hl.1.symm) hown (hts _ q1288) (hts _ q560) (hts _ q92) (hts _ q561) (Nat.le_of_ble_eq_true rfl) (Nat.le_of_ble_eq_true rfl) (Nat.le_of_ble_eq_true rfl) (Nat.le_of_ble_eq_true rfl) dX1_ages_2_198 ?_
              obtain ⟨v45, ev45, hf⟩ := o_ls hf
              refine b_topi ev45 ?_
              obtain ⟨V46, eV46, hf⟩ := o_ls hf
              refine b_iast hx hb hW 0 4 rfl vW_4 (vW_s4 eV46) rfl h1 dX1_ages_2_201 (fun H locs hW => ?_)
              have hW : bW D g A s H locs [vW g adV V46] := hW
              cases hf
              exact b_vret hx hb hr hlk hE hW () rfl trivial rfl dX1_ages_2_202
            · have hf := o_f hf c42
              refine lv_aload_n hx hb dX1_ages_2_157 rfl (lv_at hl 0 rfl) ?_
              refine b_get hx hb hts in_X1 hown hW 0 0 1 1 rfl vW_0 rfl (by decide) ⟨rfl, rfl, rfl⟩ (hts _ q132) vW_g1 dX1_ages_2_158 ?_
              refine lv_iload_n hx hb dX1_ages_2_161 rfl (lv_at hl 1 rfl) ?_
              refine b_iald hx hb hW 0 2 rfl vW_2 h1 dX1_ages_2_162 ?_
              refine lv_aload_n hx hb dX1_ages_2_163 rfl (lv_at hl 0 rfl) ?_
              refine b_get hx hb hts in_X1 hown hW 0 0 1 0 rfl vW_0 rfl (by decide) ⟨rfl, rfl, rfl⟩ (hts _ q128) vW_g0 dX1_ages_2_164 ?_
              refine lv_iload_n hx hb dX1_ages_2_167 rfl (lv_at hl 1 rfl) ?_
              refine b_iald hx hb hW 0 1 rfl vW_1 h1 dX1_ages_2_168 ?_
              refine lv_iconst (v := 3) hx hb dX1_ages_2_169 (by decide) ?_
              refine lv_iadd hx hb dX1_ages_2_170 ?_
              refine va_mmin hx hb (by rw [hml]; exact hl.1.symm) hown (hts _ q1170) (hts _ q848) (hts _ q92) (hts _ q849) (Nat.le_of_ble_eq_true rfl) (Nat.le_of_ble_eq_true rfl) (Nat.le_of_ble_eq_true rfl) (Nat.le_of_ble_eq_true rfl) dX1_ages_2_171 ?_
              obtain ⟨v47, ev47, hf⟩ := o_ls hf
              refine b_topi ev47 ?_
              refine lv_goto (tgt := 183) hx hb dX1_ages_2_174 (by decide) ?_
              obtain ⟨V48, eV48, hf⟩ := o_ls hf
              refine b_iast hx hb hW 0 1 rfl vW_1 (vW_s1 eV48) rfl h1 dX1_ages_2_183 (fun H locs hW => ?_)
              have hW : bW D g A s H locs [vW g adV V48] := hW
              refine lv_aload_n hx hb dX1_ages_2_184 rfl (lv_at hl 0 rfl) ?_
              refine b_get hx hb hts in_X1 hown hW 0 0 1 3 rfl vW_0 rfl (by decide) ⟨rfl, rfl, rfl⟩ (hts _ q136) vW_g3 dX1_ages_2_185 ?_
              refine lv_iload_n hx hb dX1_ages_2_188 rfl (lv_at hl 1 rfl) ?_
              refine lv_iconst (v := 0) hx hb dX1_ages_2_189 (by decide) ?_
              refine lv_aload_n hx hb dX1_ages_2_190 rfl (lv_at hl 0 rfl) ?_
              refine b_get hx hb hts in_X1 hown hW 0 0 1 3 rfl vW_0 rfl (by decide) ⟨rfl, rfl, rfl⟩ (hts _ q136) vW_g3 dX1_ages_2_191 ?_
              refine lv_iload_n hx hb dX1_ages_2_194 rfl (lv_at hl 1 rfl) ?_
              refine b_iald hx hb hW 0 4 rfl vW_4 h1 dX1_ages_2_195 ?_
              refine lv_iconst (v := 1) hx hb dX1_ages_2_196 (by decide) ?_
              refine lv_isub hx hb dX1_ages_2_197 ?_
              refine va_mmax hx hb (by rw [hml]; exact hl.1.symm) hown (hts _ q1288) (hts _ q560) (hts _ q92) (hts _ q561) (Nat.le_of_ble_eq_true rfl) (Nat.le_of_ble_eq_true rfl) (Nat.le_of_ble_eq_true rfl) (Nat.le_of_ble_eq_true rfl) dX1_ages_2_198 ?_
              obtain ⟨v49, ev49, hf⟩ := o_ls hf
              refine b_topi ev49 ?_
              obtain ⟨V50, eV50, hf⟩ := o_ls hf
              refine b_iast hx hb hW 0 4 rfl vW_4 (vW_s4 eV50) rfl h1 dX1_ages_2_201 (fun H locs hW => ?_)
              have hW : bW D g A s H locs [vW g adV V50] := hW
              cases hf
              exact b_vret hx hb hr hlk hE hW () rfl trivial rfl dX1_ages_2_202
        · have hf := o_f hf c40
          refine lv_aload_n hx hb dX1_ages_2_70 rfl (lv_at hl 0 rfl) ?_
          refine b_get hx hb hts in_X1 hown hW 0 0 1 0 rfl vW_0 rfl (by decide) ⟨rfl, rfl, rfl⟩ (hts _ q128) vW_g0 dX1_ages_2_71 ?_
          refine lv_iload_n hx hb dX1_ages_2_74 rfl (lv_at hl 1 rfl) ?_
          refine lv_iconst (v := 0) hx hb dX1_ages_2_75 (by decide) ?_
          refine lv_aload_n hx hb dX1_ages_2_76 rfl (lv_at hl 0 rfl) ?_
          refine b_get hx hb hts in_X1 hown hW 0 0 1 0 rfl vW_0 rfl (by decide) ⟨rfl, rfl, rfl⟩ (hts _ q128) vW_g0 dX1_ages_2_77 ?_
          refine lv_iload_n hx hb dX1_ages_2_80 rfl (lv_at hl 1 rfl) ?_
          refine b_iald hx hb hW 0 1 rfl vW_1 h1 dX1_ages_2_81 ?_
          refine lv_bipush (v := 6) hx hb dX1_ages_2_82 (by decide) ?_
          refine lv_isub hx hb dX1_ages_2_84 ?_
          refine va_mmax hx hb (by rw [hml]; exact hl.1.symm) hown (hts _ q1288) (hts _ q560) (hts _ q92) (hts _ q561) (Nat.le_of_ble_eq_true rfl) (Nat.le_of_ble_eq_true rfl) (Nat.le_of_ble_eq_true rfl) (Nat.le_of_ble_eq_true rfl) dX1_ages_2_85 ?_
          obtain ⟨v51, ev51, hf⟩ := o_ls hf
          refine b_topi ev51 ?_
          obtain ⟨V52, eV52, hf⟩ := o_ls hf
          refine b_iast hx hb hW 0 1 rfl vW_1 (vW_s1 eV52) rfl h1 dX1_ages_2_88 (fun H locs hW => ?_)
          have hW : bW D g A s H locs [vW g adV V52] := hW
          refine lv_aload_n hx hb dX1_ages_2_89 rfl (lv_at hl 0 rfl) ?_
          refine b_get hx hb hts in_X1 hown hW 0 0 1 3 rfl vW_0 rfl (by decide) ⟨rfl, rfl, rfl⟩ (hts _ q136) vW_g3 dX1_ages_2_90 ?_
          refine lv_iload_n hx hb dX1_ages_2_93 rfl (lv_at hl 1 rfl) ?_
          refine lv_bipush (v := 99) hx hb dX1_ages_2_94 (by decide) ?_
          refine lv_aload_n hx hb dX1_ages_2_96 rfl (lv_at hl 0 rfl) ?_
          refine b_get hx hb hts in_X1 hown hW 0 0 1 3 rfl vW_0 rfl (by decide) ⟨rfl, rfl, rfl⟩ (hts _ q136) vW_g3 dX1_ages_2_97 ?_
          refine lv_iload_n hx hb dX1_ages_2_100 rfl (lv_at hl 1 rfl) ?_
          refine b_iald hx hb hW 0 4 rfl vW_4 h1 dX1_ages_2_101 ?_
          refine lv_aload_n hx hb dX1_ages_2_102 rfl (lv_at hl 0 rfl) ?_
          refine b_get hx hb hts in_X1 hown hW 0 0 1 3 rfl vW_0 rfl (by decide) ⟨rfl, rfl, rfl⟩ (hts _ q136) vW_g3 dX1_ages_2_103 ?_
          refine lv_iload_n hx hb dX1_ages_2_106 rfl (lv_at hl 1 rfl) ?_
          refine b_iald hx hb hW 0 4 rfl vW_4 h1 dX1_ages_2_107 ?_
          refine lv_iconst (v := 4) hx hb dX1_ages_2_108 (by decide) ?_
          refine lv_idiv hx hb dX1_ages_2_109 (by decide) ?_
          refine lv_iadd hx hb dX1_ages_2_110 ?_
          refine lv_iconst (v := 1) hx hb dX1_ages_2_111 (by decide) ?_
          refine lv_iadd hx hb dX1_ages_2_112 ?_
          refine va_mmin hx hb (by rw [hml]; exact hl.1.symm) hown (hts _ q1170) (hts _ q848) (hts _ q92) (hts _ q849) (Nat.le_of_ble_eq_true rfl) (Nat.le_of_ble_eq_true rfl) (Nat.le_of_ble_eq_true rfl) (Nat.le_of_ble_eq_true rfl) dX1_ages_2_113 ?_
          obtain ⟨v53, ev53, hf⟩ := o_ls hf
          refine b_topi ev53 ?_
          obtain ⟨V54, eV54, hf⟩ := o_ls hf
          refine b_iast hx hb hW 0 4 rfl vW_4 (vW_s4 eV54) rfl h1 dX1_ages_2_116 (fun H locs hW => ?_)
          have hW : bW D g A s H locs [vW g adV V54] := hW
          refine lv_goto (tgt := 202) hx hb dX1_ages_2_117 (by decide) ?_
          cases hf
          exact b_vret hx hb hr hlk hE hW () rfl trivial rfl dX1_ages_2_202
      · have hf := o_f hf c36
        refine lv_aload_n hx hb dX1_ages_2_38 rfl (lv_at hl 0 rfl) ?_
        refine b_get hx hb hts in_X1 hown hW 0 0 1 0 rfl vW_0 rfl (by decide) ⟨rfl, rfl, rfl⟩ (hts _ q128) vW_g0 dX1_ages_2_39 ?_
        refine lv_iload_n hx hb dX1_ages_2_42 rfl (lv_at hl 1 rfl) ?_
        refine b_iald hx hb hW 0 1 rfl vW_1 h1 dX1_ages_2_43 ?_
        refine lv_bipush (v := 10) hx hb dX1_ages_2_44 (by decide) ?_
        refine lv_isub hx hb dX1_ages_2_46 ?_
        refine lv_goto (tgt := 56) hx hb dX1_ages_2_47 (by decide) ?_
        refine va_mmax hx hb (by rw [hml]; exact hl.1.symm) hown (hts _ q1288) (hts _ q560) (hts _ q92) (hts _ q561) (Nat.le_of_ble_eq_true rfl) (Nat.le_of_ble_eq_true rfl) (Nat.le_of_ble_eq_true rfl) (Nat.le_of_ble_eq_true rfl) dX1_ages_2_56 ?_
        obtain ⟨v55, ev55, hf⟩ := o_ls hf
        refine b_topi ev55 ?_
        obtain ⟨V56, hc56, hf⟩ := o_b1s hf
        have hp56 : List.Perm [vW g adV V] ([vW g adV V] ++ []) := b_perm [0] [] 1 rfl rfl rfl rfl
        refine b_call0 ⟨rfl, rfl⟩ (va_runV (As := [.int x1, .int v55]) (rest := []) ⟨hx, hb, hml, hown, hts⟩ (m_X1_gets l D g H.size adV V x1 v55 V56 hc56) (cwV 2 hts (lw_V q1289 q701 q702 q77 q703) rfl rfl rfl (by decide +kernel) ⟨Nat.le_of_ble_eq_true rfl, Nat.le_of_ble_eq_true rfl⟩) (b_preV (pp := 0) (q := 0) hW hp56 rfl vW_0 rfl) rfl rfl hl.1 rfl (lv_room (Nat.le_of_ble_eq_true rfl)) dX1_ages_2_59 ⟨Nat.le_of_ble_eq_true rfl, Nat.le_of_ble_eq_true rfl⟩) hW hp56 (fun _ _ H locs hW => ?_)
        have hW : bW D g A s H locs [vW g adV V56] := hW
        refine lv_aload_n hx hb dX1_ages_2_62 rfl (lv_at hl 0 rfl) ?_
        refine lv_iload_n hx hb dX1_ages_2_63 rfl (lv_at hl 1 rfl) ?_
        obtain ⟨r57, hc57, hf⟩ := o_b1s hf
        have hp57 : List.Perm [vW g adV V56] ([vW g adV V56] ++ []) := b_perm [0] [] 1 rfl rfl rfl rfl
        refine b_call0 ⟨rfl, rfl⟩ (va_runV (As := [.int x1]) (rest := []) ⟨hx, hb, hml, hown, hts⟩ (m_X1_isFull l D g H.size adV V56 x1 r57 hc57) (cwV 1 hts (lw_V q1166 q1167 q1168 q77 q1169) rfl rfl rfl (by decide +kernel) ⟨Nat.le_of_ble_eq_true rfl, Nat.le_of_ble_eq_true rfl⟩) (b_preV (pp := 0) (q := 0) hW hp57 rfl vW_0 rfl) rfl rfl hl.1 rfl (lv_room (Nat.le_of_ble_eq_true rfl)) dX1_ages_2_64 ⟨Nat.le_of_ble_eq_true rfl, Nat.le_of_ble_eq_true rfl⟩) hW hp57 (fun _ _ H locs hW => ?_)
        have hW : bW D g A s H locs [vW g adV V56] := hW
        refine lv_if_eq (tgt := 120) hx hb dX1_ages_2_67 (by decide) (fun c58 => ?_) (fun c58 => ?_)
        · have hf := o_t hf c58
          refine lv_iconst (v := 2) hx hb dX1_ages_2_120 (by decide) ?_
          refine lv_aload_n hx hb dX1_ages_2_121 rfl (lv_at hl 0 rfl) ?_
          refine b_get hx hb hts in_X1 hown hW 0 0 1 10 rfl vW_0 rfl (by decide) ⟨rfl, rfl, rfl⟩ (hts _ q159) vW_g10 dX1_ages_2_122 ?_
          refine lv_iload_n hx hb dX1_ages_2_125 rfl (lv_at hl 1 rfl) ?_
          refine b_iald hx hb hW 0 17 rfl vW_17 h1 dX1_ages_2_126 ?_
          refine lv_imul hx hb dX1_ages_2_127 ?_
          refine lv_aload_n hx hb dX1_ages_2_128 rfl (lv_at hl 0 rfl) ?_
          refine b_get hx hb hts in_X1 hown hW 0 0 1 2 rfl vW_0 rfl (by decide) ⟨rfl, rfl, rfl⟩ (hts _ q134) vW_g2 dX1_ages_2_129 ?_
          refine lv_iload_n hx hb dX1_ages_2_132 rfl (lv_at hl 1 rfl) ?_
          refine b_iald hx hb hW 0 3 rfl vW_3 h1 dX1_ages_2_133 ?_
          refine lv_icmp_ge (tgt := 202) hx hb dX1_ages_2_134 (by decide) (fun c59 => ?_) (fun c59 => ?_)
          · have hf := o_t hf c59
            cases hf
            exact b_vret hx hb hr hlk hE hW () rfl trivial rfl dX1_ages_2_202
          · have hf := o_f hf c59
            refine lv_aload_n hx hb dX1_ages_2_137 rfl (lv_at hl 0 rfl) ?_
            refine b_get hx hb hts in_X1 hown hW 0 0 1 0 rfl vW_0 rfl (by decide) ⟨rfl, rfl, rfl⟩ (hts _ q128) vW_g0 dX1_ages_2_138 ?_
            refine lv_iload_n hx hb dX1_ages_2_141 rfl (lv_at hl 1 rfl) ?_
            refine lv_aload_n hx hb dX1_ages_2_142 rfl (lv_at hl 0 rfl) ?_
            refine b_get hx hb hts in_X1 hown hW 0 0 1 0 rfl vW_0 rfl (by decide) ⟨rfl, rfl, rfl⟩ (hts _ q128) vW_g0 dX1_ages_2_143 ?_
            refine lv_iload_n hx hb dX1_ages_2_146 rfl (lv_at hl 1 rfl) ?_
            refine b_iald hx hb hW 0 1 rfl vW_1 h1 dX1_ages_2_147 ?_
            refine lv_aload_n hx hb dX1_ages_2_148 rfl (lv_at hl 0 rfl) ?_
            refine b_get hx hb hts in_X1 hown hW 0 0 1 1 rfl vW_0 rfl (by decide) ⟨rfl, rfl, rfl⟩ (hts _ q132) vW_g1 dX1_ages_2_149 ?_
            refine lv_iload_n hx hb dX1_ages_2_152 rfl (lv_at hl 1 rfl) ?_
            refine b_iald hx hb hW 0 2 rfl vW_2 h1 dX1_ages_2_153 ?_
            refine lv_icmp_ge (tgt := 177) hx hb dX1_ages_2_154 (by decide) (fun c60 => ?_) (fun c60 => ?_)
            · have hf := o_t hf c60
              refine lv_aload_n hx hb dX1_ages_2_177 rfl (lv_at hl 0 rfl) ?_
              refine b_get hx hb hts in_X1 hown hW 0 0 1 0 rfl vW_0 rfl (by decide) ⟨rfl, rfl, rfl⟩ (hts _ q128) vW_g0 dX1_ages_2_178 ?_
              refine lv_iload_n hx hb dX1_ages_2_181 rfl (lv_at hl 1 rfl) ?_
              refine b_iald hx hb hW 0 1 rfl vW_1 h1 dX1_ages_2_182 ?_
              obtain ⟨v61, ev61, hf⟩ := o_ls hf
              refine b_topi ev61 ?_
              obtain ⟨V62, eV62, hf⟩ := o_ls hf
              refine b_iast hx hb hW 0 1 rfl vW_1 (vW_s1 eV62) rfl h1 dX1_ages_2_183 (fun H locs hW => ?_)
              have hW : bW D g A s H locs [vW g adV V62] := hW
              refine lv_aload_n hx hb dX1_ages_2_184 rfl (lv_at hl 0 rfl) ?_
              refine b_get hx hb hts in_X1 hown hW 0 0 1 3 rfl vW_0 rfl (by decide) ⟨rfl, rfl, rfl⟩ (hts _ q136) vW_g3 dX1_ages_2_185 ?_
              refine lv_iload_n hx hb dX1_ages_2_188 rfl (lv_at hl 1 rfl) ?_
              refine lv_iconst (v := 0) hx hb dX1_ages_2_189 (by decide) ?_
              refine lv_aload_n hx hb dX1_ages_2_190 rfl (lv_at hl 0 rfl) ?_
              refine b_get hx hb hts in_X1 hown hW 0 0 1 3 rfl vW_0 rfl (by decide) ⟨rfl, rfl, rfl⟩ (hts _ q136) vW_g3 dX1_ages_2_191 ?_
              refine lv_iload_n hx hb dX1_ages_2_194 rfl (lv_at hl 1 rfl) ?_
              refine b_iald hx hb hW 0 4 rfl vW_4 h1 dX1_ages_2_195 ?_
              refine lv_iconst (v := 1) hx hb dX1_ages_2_196 (by decide) ?_
              refine lv_isub hx hb dX1_ages_2_197 ?_
              refine va_mmax hx hb (by rw [hml]; exact hl.1.symm) hown (hts _ q1288) (hts _ q560) (hts _ q92) (hts _ q561) (Nat.le_of_ble_eq_true rfl) (Nat.le_of_ble_eq_true rfl) (Nat.le_of_ble_eq_true rfl) (Nat.le_of_ble_eq_true rfl) dX1_ages_2_198 ?_
              obtain ⟨v63, ev63, hf⟩ := o_ls hf
              refine b_topi ev63 ?_
              obtain ⟨V64, eV64, hf⟩ := o_ls hf
              refine b_iast hx hb hW 0 4 rfl vW_4 (vW_s4 eV64) rfl h1 dX1_ages_2_201 (fun H locs hW => ?_)
              have hW : bW D g A s H locs [vW g adV V64] := hW
              cases hf
              exact b_vret hx hb hr hlk hE hW () rfl trivial rfl dX1_ages_2_202
            · have hf := o_f hf c60
              refine lv_aload_n hx hb dX1_ages_2_157 rfl (lv_at hl 0 rfl) ?_
              refine b_get hx hb hts in_X1 hown hW 0 0 1 1 rfl vW_0 rfl (by decide) ⟨rfl, rfl, rfl⟩ (hts _ q132) vW_g1 dX1_ages_2_158 ?_
              refine lv_iload_n hx hb dX1_ages_2_161 rfl (lv_at hl 1 rfl) ?_
              refine b_iald hx hb hW 0 2 rfl vW_2 h1 dX1_ages_2_162 ?_
              refine lv_aload_n hx hb dX1_ages_2_163 rfl (lv_at hl 0 rfl) ?_
              refine b_get hx hb hts in_X1 hown hW 0 0 1 0 rfl vW_0 rfl (by decide) ⟨rfl, rfl, rfl⟩ (hts _ q128) vW_g0 dX1_ages_2_164 ?_
              refine lv_iload_n hx hb dX1_ages_2_167 rfl (lv_at hl 1 rfl) ?_
              refine b_iald hx hb hW 0 1 rfl vW_1 h1 dX1_ages_2_168 ?_
              refine lv_iconst (v := 3) hx hb dX1_ages_2_169 (by decide) ?_
              refine lv_iadd hx hb dX1_ages_2_170 ?_
              refine va_mmin hx hb (by rw [hml]; exact hl.1.symm) hown (hts _ q1170) (hts _ q848) (hts _ q92) (hts _ q849) (Nat.le_of_ble_eq_true rfl) (Nat.le_of_ble_eq_true rfl) (Nat.le_of_ble_eq_true rfl) (Nat.le_of_ble_eq_true rfl) dX1_ages_2_171 ?_
              obtain ⟨v65, ev65, hf⟩ := o_ls hf
              refine b_topi ev65 ?_
              refine lv_goto (tgt := 183) hx hb dX1_ages_2_174 (by decide) ?_
              obtain ⟨V66, eV66, hf⟩ := o_ls hf
              refine b_iast hx hb hW 0 1 rfl vW_1 (vW_s1 eV66) rfl h1 dX1_ages_2_183 (fun H locs hW => ?_)
              have hW : bW D g A s H locs [vW g adV V66] := hW
              refine lv_aload_n hx hb dX1_ages_2_184 rfl (lv_at hl 0 rfl) ?_
              refine b_get hx hb hts in_X1 hown hW 0 0 1 3 rfl vW_0 rfl (by decide) ⟨rfl, rfl, rfl⟩ (hts _ q136) vW_g3 dX1_ages_2_185 ?_
              refine lv_iload_n hx hb dX1_ages_2_188 rfl (lv_at hl 1 rfl) ?_
              refine lv_iconst (v := 0) hx hb dX1_ages_2_189 (by decide) ?_
              refine lv_aload_n hx hb dX1_ages_2_190 rfl (lv_at hl 0 rfl) ?_
              refine b_get hx hb hts in_X1 hown hW 0 0 1 3 rfl vW_0 rfl (by decide) ⟨rfl, rfl, rfl⟩ (hts _ q136) vW_g3 dX1_ages_2_191 ?_
              refine lv_iload_n hx hb dX1_ages_2_194 rfl (lv_at hl 1 rfl) ?_
              refine b_iald hx hb hW 0 4 rfl vW_4 h1 dX1_ages_2_195 ?_
              refine lv_iconst (v := 1) hx hb dX1_ages_2_196 (by decide) ?_
              refine lv_isub hx hb dX1_ages_2_197 ?_
              refine va_mmax hx hb (by rw [hml]; exact hl.1.symm) hown (hts _ q1288) (hts _ q560) (hts _ q92) (hts _ q561) (Nat.le_of_ble_eq_true rfl) (Nat.le_of_ble_eq_true rfl) (Nat.le_of_ble_eq_true rfl) (Nat.le_of_ble_eq_true rfl) dX1_ages_2_198 ?_
              obtain ⟨v67, ev67, hf⟩ := o_ls hf
              refine b_topi ev67 ?_
              obtain ⟨V68, eV68, hf⟩ := o_ls hf
              refine b_iast hx hb hW 0 4 rfl vW_4 (vW_s4 eV68) rfl h1 dX1_ages_2_201 (fun H locs hW => ?_)
              have hW : bW D g A s H locs [vW g adV V68] := hW
              cases hf
              exact b_vret hx hb hr hlk hE hW () rfl trivial rfl dX1_ages_2_202
        · have hf := o_f hf c58
          refine lv_aload_n hx hb dX1_ages_2_70 rfl (lv_at hl 0 rfl) ?_
          refine b_get hx hb hts in_X1 hown hW 0 0 1 0 rfl vW_0 rfl (by decide) ⟨rfl, rfl, rfl⟩ (hts _ q128) vW_g0 dX1_ages_2_71 ?_
          refine lv_iload_n hx hb dX1_ages_2_74 rfl (lv_at hl 1 rfl) ?_
          refine lv_iconst (v := 0) hx hb dX1_ages_2_75 (by decide) ?_
          refine lv_aload_n hx hb dX1_ages_2_76 rfl (lv_at hl 0 rfl) ?_
          refine b_get hx hb hts in_X1 hown hW 0 0 1 0 rfl vW_0 rfl (by decide) ⟨rfl, rfl, rfl⟩ (hts _ q128) vW_g0 dX1_ages_2_77 ?_
          refine lv_iload_n hx hb dX1_ages_2_80 rfl (lv_at hl 1 rfl) ?_
          refine b_iald hx hb hW 0 1 rfl vW_1 h1 dX1_ages_2_81 ?_
          refine lv_bipush (v := 6) hx hb dX1_ages_2_82 (by decide) ?_
          refine lv_isub hx hb dX1_ages_2_84 ?_
          refine va_mmax hx hb (by rw [hml]; exact hl.1.symm) hown (hts _ q1288) (hts _ q560) (hts _ q92) (hts _ q561) (Nat.le_of_ble_eq_true rfl) (Nat.le_of_ble_eq_true rfl) (Nat.le_of_ble_eq_true rfl) (Nat.le_of_ble_eq_true rfl) dX1_ages_2_85 ?_
          obtain ⟨v69, ev69, hf⟩ := o_ls hf
          refine b_topi ev69 ?_
          obtain ⟨V70, eV70, hf⟩ := o_ls hf
          refine b_iast hx hb hW 0 1 rfl vW_1 (vW_s1 eV70) rfl h1 dX1_ages_2_88 (fun H locs hW => ?_)
          have hW : bW D g A s H locs [vW g adV V70] := hW
          refine lv_aload_n hx hb dX1_ages_2_89 rfl (lv_at hl 0 rfl) ?_
          refine b_get hx hb hts in_X1 hown hW 0 0 1 3 rfl vW_0 rfl (by decide) ⟨rfl, rfl, rfl⟩ (hts _ q136) vW_g3 dX1_ages_2_90 ?_
          refine lv_iload_n hx hb dX1_ages_2_93 rfl (lv_at hl 1 rfl) ?_
          refine lv_bipush (v := 99) hx hb dX1_ages_2_94 (by decide) ?_
          refine lv_aload_n hx hb dX1_ages_2_96 rfl (lv_at hl 0 rfl) ?_
          refine b_get hx hb hts in_X1 hown hW 0 0 1 3 rfl vW_0 rfl (by decide) ⟨rfl, rfl, rfl⟩ (hts _ q136) vW_g3 dX1_ages_2_97 ?_
          refine lv_iload_n hx hb dX1_ages_2_100 rfl (lv_at hl 1 rfl) ?_
          refine b_iald hx hb hW 0 4 rfl vW_4 h1 dX1_ages_2_101 ?_
          refine lv_aload_n hx hb dX1_ages_2_102 rfl (lv_at hl 0 rfl) ?_
          refine b_get hx hb hts in_X1 hown hW 0 0 1 3 rfl vW_0 rfl (by decide) ⟨rfl, rfl, rfl⟩ (hts _ q136) vW_g3 dX1_ages_2_103 ?_
          refine lv_iload_n hx hb dX1_ages_2_106 rfl (lv_at hl 1 rfl) ?_
          refine b_iald hx hb hW 0 4 rfl vW_4 h1 dX1_ages_2_107 ?_
          refine lv_iconst (v := 4) hx hb dX1_ages_2_108 (by decide) ?_
          refine lv_idiv hx hb dX1_ages_2_109 (by decide) ?_
          refine lv_iadd hx hb dX1_ages_2_110 ?_
          refine lv_iconst (v := 1) hx hb dX1_ages_2_111 (by decide) ?_
          refine lv_iadd hx hb dX1_ages_2_112 ?_
          refine va_mmin hx hb (by rw [hml]; exact hl.1.symm) hown (hts _ q1170) (hts _ q848) (hts _ q92) (hts _ q849) (Nat.le_of_ble_eq_true rfl) (Nat.le_of_ble_eq_true rfl) (Nat.le_of_ble_eq_true rfl) (Nat.le_of_ble_eq_true rfl) dX1_ages_2_113 ?_
          obtain ⟨v71, ev71, hf⟩ := o_ls hf
          refine b_topi ev71 ?_
          obtain ⟨V72, eV72, hf⟩ := o_ls hf
          refine b_iast hx hb hW 0 4 rfl vW_4 (vW_s4 eV72) rfl h1 dX1_ages_2_116 (fun H locs hW => ?_)
          have hW : bW D g A s H locs [vW g adV V72] := hW
          refine lv_goto (tgt := 202) hx hb dX1_ages_2_117 (by decide) ?_
          cases hf
          exact b_vret hx hb hr hlk hE hW () rfl trivial rfl dX1_ages_2_202
def f_X1_ages_L2  (rec1 : (Int32 × BC) → Option BC) : Int32 × BC → Option BC
  | (v2, V3) =>
    (if (V3.1 0 0) ≤ v2 then
     o_lt ((if ((V3.1 0 2) + 1) < (99 : Int32) then ((V3.1 0 2) + 1) else (99 : Int32))) fun (v5 : Int32) =>
     o_lt (bI V3 0 (upd (V3.1 0) 2 v5)) fun (V6 : BC) =>
     some V6
     else
     o_b1 (f_X1_ages_2 V3 v2) fun (V7 : BC) =>
     o_lt (v2 + 1) fun (v8 : Int32) =>
     rec1 (v8, V7))
def f_X1_ages (fu : Nat) (V : BC) : Option BC :=
 o_lp (f_X1_ages_L2) fu (0, V)
abbrev rm_X1_ages : Room := { frames := 2, cells := 0, slots := 0, locals := 45 }
set_option maxHeartbeats 4000000 in
set_option maxRecDepth 100000 in
theorem m_X1_ages (l : Launch) (D : va_G) (g : Nat → ClassId) (sz : Nat) (adV : Nat → Nat) (fu : Nat) (V : BC) (VO : BC) (hf : f_X1_ages fu V = some VO) : bMet (S := Unit) l yX1_ages (ws_ yX1_ages cX1_ages 2 none) rm_X1_ages D g sz [.ref (adV 0)] [vW g adV V] (fun _ => True) (fun _ => none) (fun _ => [vW g adV VO]) := by
  refine b_met (by decide) (Nat.le_of_ble_eq_true rfl) ?_
  intro p e s m args below meth c A Q ls hx hb hml hr hlk hown hname hts hE hl hW
  revert hW; generalize s.heap = H; intro hW
  have hl : lv_has ls 2 [(0, .ref (adV 0))] := hl
  rw [f_X1_ages] at hf
  refine lv_iconst (v := 0) hx hb dX1_ages_0 (by decide) ?_
  refine lv_istore_n (lv' := [(1, .int 0), (0, .ref (adV 0))]) hx hb dX1_ages_1 rfl hl (by decide) rfl (fun ls hl => ?_)
  obtain ⟨stp1, est1, hf⟩ := o_ln hf
  have L1 : ∀ (n : Nat) (v2 : Int32) (V3 : BC) (H : Heap) (locs : List Loc) (ls : Array Slot), bW D g A s H locs [vW g adV V3] → lv_has ls 2 [(1, .int v2), (0, .ref (adV 0))] → o_lp stp1 n (v2, V3) = some VO → W p l e rm_X1_ages s m args below meth c H locs 0 0 Q (F0 m 2 ls []) := by
    intro n1
    induction n1 with
    | zero => intro v2 V3 H locs ls hW hl hf; exact (o_lz hf).elim
    | succ n1 ih1 =>
      intro v2 V3 H locs ls hW hl hf
      have hf := o_lu est1 hf
      rw [f_X1_ages_L2] at hf
      refine lv_iload_n hx hb dX1_ages_2 rfl (lv_at hl 0 rfl) ?_
      refine lv_aload_n hx hb dX1_ages_3 rfl (lv_at hl 1 rfl) ?_
      refine b_get hx hb hts in_X1 hown hW 0 0 1 12 rfl vW_0 rfl (by decide) ⟨rfl, rfl, rfl⟩ (hts _ q165) vW_g12 dX1_ages_4 ?_
      refine lv_icmp_ge (tgt := 21) hx hb dX1_ages_7 (by decide) (fun c4 => ?_) (fun c4 => ?_)
      · have hf := o_t hf c4
        refine lv_aload_n hx hb dX1_ages_21 rfl (lv_at hl 1 rfl) ?_
        refine lv_bipush (v := 99) hx hb dX1_ages_22 (by decide) ?_
        refine lv_aload_n hx hb dX1_ages_24 rfl (lv_at hl 1 rfl) ?_
        refine b_get hx hb hts in_X1 hown hW 0 0 1 14 rfl vW_0 rfl (by decide) ⟨rfl, rfl, rfl⟩ (hts _ q172) vW_g14 dX1_ages_25 ?_
        refine lv_iconst (v := 1) hx hb dX1_ages_28 (by decide) ?_
        refine lv_iadd hx hb dX1_ages_29 ?_
        refine va_mmin hx hb (by rw [hml]; exact hl.1.symm) hown (hts _ q1170) (hts _ q848) (hts _ q92) (hts _ q849) (Nat.le_of_ble_eq_true rfl) (Nat.le_of_ble_eq_true rfl) (Nat.le_of_ble_eq_true rfl) (Nat.le_of_ble_eq_true rfl) dX1_ages_30 ?_
        obtain ⟨v5, ev5, hf⟩ := o_ls hf
        refine b_topi ev5 ?_
        obtain ⟨V6, eV6, hf⟩ := o_ls hf
        refine b_put hx hb hts in_X1 tyX1 tyX1_ok nmX1 hown hW 0 0 1 14 rfl vW_0 (vW_p14 eV6) rfl rfl (by decide) ⟨rfl, rfl, rfl⟩ (hts _ q172) rfl (ty := .int) rfl rfl rfl (by rw [vW_l]; decide) dX1_ages_33 (fun H locs hW => ?_)
        have hW : bW D g A s H locs [vW g adV V6] := hW
        cases hf
        exact b_vret hx hb hr hlk hE hW () rfl trivial rfl dX1_ages_36
      · have hf := o_f hf c4
        refine lv_aload_n hx hb dX1_ages_10 rfl (lv_at hl 1 rfl) ?_
        refine lv_iload_n hx hb dX1_ages_11 rfl (lv_at hl 0 rfl) ?_
        obtain ⟨V7, hc7, hf⟩ := o_b1s hf
        have hp7 : List.Perm [vW g adV V3] ([vW g adV V3] ++ []) := b_perm [0] [] 1 rfl rfl rfl rfl
        refine b_call0 ⟨rfl, rfl⟩ (va_runV (As := [.int v2]) (rest := []) ⟨hx, hb, hml, hown, hts⟩ (m_X1_ages_2 l D g H.size adV V3 v2 V7 hc7) (cwV 1 hts (lw_V q1284 q1286 qs25 q77 q1287) rfl rfl rfl (by decide +kernel) ⟨Nat.le_of_ble_eq_true rfl, Nat.le_of_ble_eq_true rfl⟩) (b_preV (pp := 0) (q := 0) hW hp7 rfl vW_0 rfl) rfl rfl hl.1 rfl (lv_room (Nat.le_of_ble_eq_true rfl)) dX1_ages_12 ⟨Nat.le_of_ble_eq_true rfl, Nat.le_of_ble_eq_true rfl⟩) hW hp7 (fun _ _ H locs hW => ?_)
        have hW : bW D g A s H locs [vW g adV V7] := hW
        obtain ⟨v8, ev8, hf⟩ := o_ls hf
        refine lv_iinc (v := v8) (lv' := [(1, .int v8), (0, .ref (adV 0))]) hx hb dX1_ages_15 hl (k := 0) rfl ev8 (by decide) rfl (fun ls hl => ?_)
        refine lv_goto (tgt := 2) hx hb dX1_ages_18 (by decide) ?_
        exact ih1 _ _ _ _ _ hW (lv_sub hl [0, 1] rfl) hf
  exact L1 _ _ _ _ _ _ hW (lv_sub hl [0, 1] rfl) hf
def f_X1_draw (V : BC) (x1 : Int32) : Option (Int32 × BC) :=
 o_lt (((V.1 0 3) * 1103515245) + 12345) fun (v1 : Int32) =>
 o_lt (bI V 0 (upd (V.1 0) 3 v1)) fun (V2 : BC) =>
 o_ck (!decide (x1 = 0)) (some ((((V2.1 0 3).toUInt32 >>> ((16 : Int32).toUInt32 &&& Int32.toUInt32 31)).toInt32) - (((V2.1 0 3).toUInt32 >>> ((16 : Int32).toUInt32 &&& Int32.toUInt32 31)).toInt32) / x1 * x1, V2))
abbrev rm_X1_draw : Room := { frames := 0, cells := 0, slots := 0, locals := 0 }
set_option maxHeartbeats 4000000 in
set_option maxRecDepth 100000 in
theorem m_X1_draw (l : Launch) (D : va_G) (g : Nat → ClassId) (sz : Nat) (adV : Nat → Nat) (V : BC) (x1 : Int32) (rO : Int32) (VO : BC) (hf : f_X1_draw V x1 = some (rO, VO)) : bMet (S := Unit) l yX1_draw (ws_ yX1_draw cX1_draw 2 (some .int)) rm_X1_draw D g sz [.ref (adV 0), .int x1] [vW g adV V] (fun _ => True) (fun _ => some (.int rO)) (fun _ => [vW g adV VO]) := by
  refine b_met (by decide) (Nat.le_of_ble_eq_true rfl) ?_
  intro p e s m args below meth c A Q ls hx hb hml hr hlk hown hname hts hE hl hW
  revert hW; generalize s.heap = H; intro hW
  have hl : lv_has ls 2 [(0, .ref (adV 0)), (1, .int x1)] := hl
  rw [f_X1_draw] at hf
  refine lv_aload_n hx hb dX1_draw_0 rfl (lv_at hl 0 rfl) ?_
  refine lv_aload_n hx hb dX1_draw_1 rfl (lv_at hl 0 rfl) ?_
  refine b_get hx hb hts in_X1 hown hW 0 0 1 15 rfl vW_0 rfl (by decide) ⟨rfl, rfl, rfl⟩ (hts _ q175) vW_g15 dX1_draw_2 ?_
  refine lv_ldc (v := 1103515245) hx hb hown (hts _ q1417) dX1_draw_5 ?_
  refine lv_imul hx hb dX1_draw_7 ?_
  refine lv_sipush (v := 12345) hx hb dX1_draw_8 (by decide) ?_
  refine lv_iadd hx hb dX1_draw_11 ?_
  obtain ⟨v1, ev1, hf⟩ := o_ls hf
  refine b_topi ev1 ?_
  obtain ⟨V2, eV2, hf⟩ := o_ls hf
  refine b_put hx hb hts in_X1 tyX1 tyX1_ok nmX1 hown hW 0 0 1 15 rfl vW_0 (vW_p15 eV2) rfl rfl (by decide) ⟨rfl, rfl, rfl⟩ (hts _ q175) rfl (ty := .int) rfl rfl rfl (by rw [vW_l]; decide) dX1_draw_12 (fun H locs hW => ?_)
  have hW : bW D g A s H locs [vW g adV V2] := hW
  refine lv_aload_n hx hb dX1_draw_15 rfl (lv_at hl 0 rfl) ?_
  refine b_get hx hb hts in_X1 hown hW 0 0 1 15 rfl vW_0 rfl (by decide) ⟨rfl, rfl, rfl⟩ (hts _ q175) vW_g15 dX1_draw_16 ?_
  refine lv_bipush (v := 16) hx hb dX1_draw_19 (by decide) ?_
  refine lv_iushr hx hb dX1_draw_21 rfl ?_
  refine lv_iload_n hx hb dX1_draw_22 rfl (lv_at hl 1 rfl) ?_
  obtain ⟨h3, hf⟩ := o_cs hf
  refine lv_irem hx hb dX1_draw_23 (o_nz h3) ?_
  cases hf
  exact b_iret hx hb hr hlk hE hW () rfl trivial rfl dX1_draw_24
def f_X1_adds (V : BC) (x1 : Int32) (x2 : Int32) (x3 : Int32) : Option BC :=
 o_ck (inB (V.1 0 0) 6) (o_lt (bI V 1 (upd (V.1 1) (ix (V.1 0 0)) x1)) fun (V2 : BC) =>
 o_ck (inB (V2.1 0 0) 6) (o_lt (bI V2 2 (upd (V2.1 2) (ix (V2.1 0 0)) x1)) fun (V4 : BC) =>
 o_ck (inB (V4.1 0 0) 6) (o_lt (bI V4 3 (upd (V4.1 3) (ix (V4.1 0 0)) x2)) fun (V6 : BC) =>
 o_ck (inB (V6.1 0 0) 6) (o_lt (bI V6 4 (upd (V6.1 4) (ix (V6.1 0 0)) x3)) fun (V8 : BC) =>
 o_ck (inB (V8.1 0 0) 6) (o_lt (bI V8 5 (upd (V8.1 5) (ix (V8.1 0 0)) (-1))) fun (V10 : BC) =>
 o_ck (inB (V10.1 0 0) 6) (o_lt (bI V10 6 (upd (V10.1 6) (ix (V10.1 0 0)) 0)) fun (V12 : BC) =>
 o_ck (inB (V12.1 0 0) 6) (o_lt (bI V12 7 (upd (V12.1 7) (ix (V12.1 0 0)) 0)) fun (V14 : BC) =>
 o_lt ((V14.1 0 0) + 1) fun (v15 : Int32) =>
 o_lt (bI V14 0 (upd (V14.1 0) 0 v15)) fun (V16 : BC) =>
 some V16)))))))
abbrev rm_X1_adds : Room := { frames := 0, cells := 0, slots := 0, locals := 0 }
set_option maxHeartbeats 4000000 in
set_option maxRecDepth 100000 in
theorem m_X1_adds (l : Launch) (D : va_G) (g : Nat → ClassId) (sz : Nat) (adV : Nat → Nat) (V : BC) (x1 : Int32) (x2 : Int32) (x3 : Int32) (VO : BC) (hf : f_X1_adds V x1 x2 x3 = some VO) : bMet (S := Unit) l yX1_adds (ws_ yX1_adds cX1_adds 4 none) rm_X1_adds D g sz [.ref (adV 0), .int x1, .int x2, .int x3] [vW g adV V] (fun _ => True) (fun _ => none) (fun _ => [vW g adV VO]) := by
  refine b_met (by decide) (Nat.le_of_ble_eq_true rfl) ?_
  intro p e s m args below meth c A Q ls hx hb hml hr hlk hown hname hts hE hl hW
  revert hW; generalize s.heap = H; intro hW
  have hl : lv_has ls 4 [(0, .ref (adV 0)), (1, .int x1), (2, .int x2), (3, .int x3)] := hl
  rw [f_X1_adds] at hf
  refine lv_aload_n hx hb dX1_adds_0 rfl (lv_at hl 0 rfl) ?_
  refine b_get hx hb hts in_X1 hown hW 0 0 1 0 rfl vW_0 rfl (by decide) ⟨rfl, rfl, rfl⟩ (hts _ q128) vW_g0 dX1_adds_1 ?_
  refine lv_aload_n hx hb dX1_adds_4 rfl (lv_at hl 0 rfl) ?_
  refine b_get hx hb hts in_X1 hown hW 0 0 1 12 rfl vW_0 rfl (by decide) ⟨rfl, rfl, rfl⟩ (hts _ q165) vW_g12 dX1_adds_5 ?_
  refine lv_iload_n hx hb dX1_adds_8 rfl (lv_at hl 1 rfl) ?_
  obtain ⟨h1, hf⟩ := o_cs hf
  obtain ⟨V2, eV2, hf⟩ := o_ls hf
  refine b_iast hx hb hW 0 1 rfl vW_1 (vW_s1 eV2) rfl h1 dX1_adds_9 (fun H locs hW => ?_)
  have hW : bW D g A s H locs [vW g adV V2] := hW
  refine lv_aload_n hx hb dX1_adds_10 rfl (lv_at hl 0 rfl) ?_
  refine b_get hx hb hts in_X1 hown hW 0 0 1 1 rfl vW_0 rfl (by decide) ⟨rfl, rfl, rfl⟩ (hts _ q132) vW_g1 dX1_adds_11 ?_
  refine lv_aload_n hx hb dX1_adds_14 rfl (lv_at hl 0 rfl) ?_
  refine b_get hx hb hts in_X1 hown hW 0 0 1 12 rfl vW_0 rfl (by decide) ⟨rfl, rfl, rfl⟩ (hts _ q165) vW_g12 dX1_adds_15 ?_
  refine lv_iload_n hx hb dX1_adds_18 rfl (lv_at hl 1 rfl) ?_
  obtain ⟨h3, hf⟩ := o_cs hf
  obtain ⟨V4, eV4, hf⟩ := o_ls hf
  refine b_iast hx hb hW 0 2 rfl vW_2 (vW_s2 eV4) rfl h3 dX1_adds_19 (fun H locs hW => ?_)
  have hW : bW D g A s H locs [vW g adV V4] := hW
  refine lv_aload_n hx hb dX1_adds_20 rfl (lv_at hl 0 rfl) ?_
  refine b_get hx hb hts in_X1 hown hW 0 0 1 2 rfl vW_0 rfl (by decide) ⟨rfl, rfl, rfl⟩ (hts _ q134) vW_g2 dX1_adds_21 ?_
  refine lv_aload_n hx hb dX1_adds_24 rfl (lv_at hl 0 rfl) ?_
  refine b_get hx hb hts in_X1 hown hW 0 0 1 12 rfl vW_0 rfl (by decide) ⟨rfl, rfl, rfl⟩ (hts _ q165) vW_g12 dX1_adds_25 ?_
  refine lv_iload_n hx hb dX1_adds_28 rfl (lv_at hl 2 rfl) ?_
  obtain ⟨h5, hf⟩ := o_cs hf
  obtain ⟨V6, eV6, hf⟩ := o_ls hf
  refine b_iast hx hb hW 0 3 rfl vW_3 (vW_s3 eV6) rfl h5 dX1_adds_29 (fun H locs hW => ?_)
  have hW : bW D g A s H locs [vW g adV V6] := hW
  refine lv_aload_n hx hb dX1_adds_30 rfl (lv_at hl 0 rfl) ?_
  refine b_get hx hb hts in_X1 hown hW 0 0 1 3 rfl vW_0 rfl (by decide) ⟨rfl, rfl, rfl⟩ (hts _ q136) vW_g3 dX1_adds_31 ?_
  refine lv_aload_n hx hb dX1_adds_34 rfl (lv_at hl 0 rfl) ?_
  refine b_get hx hb hts in_X1 hown hW 0 0 1 12 rfl vW_0 rfl (by decide) ⟨rfl, rfl, rfl⟩ (hts _ q165) vW_g12 dX1_adds_35 ?_
  refine lv_iload_n hx hb dX1_adds_38 rfl (lv_at hl 3 rfl) ?_
  obtain ⟨h7, hf⟩ := o_cs hf
  obtain ⟨V8, eV8, hf⟩ := o_ls hf
  refine b_iast hx hb hW 0 4 rfl vW_4 (vW_s4 eV8) rfl h7 dX1_adds_39 (fun H locs hW => ?_)
  have hW : bW D g A s H locs [vW g adV V8] := hW
  refine lv_aload_n hx hb dX1_adds_40 rfl (lv_at hl 0 rfl) ?_
  refine b_get hx hb hts in_X1 hown hW 0 0 1 4 rfl vW_0 rfl (by decide) ⟨rfl, rfl, rfl⟩ (hts _ q140) vW_g4 dX1_adds_41 ?_
  refine lv_aload_n hx hb dX1_adds_44 rfl (lv_at hl 0 rfl) ?_
  refine b_get hx hb hts in_X1 hown hW 0 0 1 12 rfl vW_0 rfl (by decide) ⟨rfl, rfl, rfl⟩ (hts _ q165) vW_g12 dX1_adds_45 ?_
  refine lv_iconst (v := (-1)) hx hb dX1_adds_48 (by decide) ?_
  obtain ⟨h9, hf⟩ := o_cs hf
  obtain ⟨V10, eV10, hf⟩ := o_ls hf
  refine b_iast hx hb hW 0 5 rfl vW_5 (vW_s5 eV10) rfl h9 dX1_adds_49 (fun H locs hW => ?_)
  have hW : bW D g A s H locs [vW g adV V10] := hW
  refine lv_aload_n hx hb dX1_adds_50 rfl (lv_at hl 0 rfl) ?_
  refine b_get hx hb hts in_X1 hown hW 0 0 1 5 rfl vW_0 rfl (by decide) ⟨rfl, rfl, rfl⟩ (hts _ q146) vW_g5 dX1_adds_51 ?_
  refine lv_aload_n hx hb dX1_adds_54 rfl (lv_at hl 0 rfl) ?_
  refine b_get hx hb hts in_X1 hown hW 0 0 1 12 rfl vW_0 rfl (by decide) ⟨rfl, rfl, rfl⟩ (hts _ q165) vW_g12 dX1_adds_55 ?_
  refine lv_iconst (v := 0) hx hb dX1_adds_58 (by decide) ?_
  obtain ⟨h11, hf⟩ := o_cs hf
  obtain ⟨V12, eV12, hf⟩ := o_ls hf
  refine b_iast hx hb hW 0 6 rfl vW_6 (vW_s6 eV12) rfl h11 dX1_adds_59 (fun H locs hW => ?_)
  have hW : bW D g A s H locs [vW g adV V12] := hW
  refine lv_aload_n hx hb dX1_adds_60 rfl (lv_at hl 0 rfl) ?_
  refine b_get hx hb hts in_X1 hown hW 0 0 1 6 rfl vW_0 rfl (by decide) ⟨rfl, rfl, rfl⟩ (hts _ q150) vW_g6 dX1_adds_61 ?_
  refine lv_aload_n hx hb dX1_adds_64 rfl (lv_at hl 0 rfl) ?_
  refine b_get hx hb hts in_X1 hown hW 0 0 1 12 rfl vW_0 rfl (by decide) ⟨rfl, rfl, rfl⟩ (hts _ q165) vW_g12 dX1_adds_65 ?_
  refine lv_iconst (v := 0) hx hb dX1_adds_68 (by decide) ?_
  obtain ⟨h13, hf⟩ := o_cs hf
  obtain ⟨V14, eV14, hf⟩ := o_ls hf
  refine b_iast hx hb hW 0 7 rfl vW_7 (vW_s7 eV14) rfl h13 dX1_adds_69 (fun H locs hW => ?_)
  have hW : bW D g A s H locs [vW g adV V14] := hW
  refine lv_aload_n hx hb dX1_adds_70 rfl (lv_at hl 0 rfl) ?_
  refine lv_dup hx hb dX1_adds_71 rfl ?_
  refine b_get hx hb hts in_X1 hown hW 0 0 1 12 rfl vW_0 rfl (by decide) ⟨rfl, rfl, rfl⟩ (hts _ q165) vW_g12 dX1_adds_72 ?_
  refine lv_iconst (v := 1) hx hb dX1_adds_75 (by decide) ?_
  refine lv_iadd hx hb dX1_adds_76 ?_
  obtain ⟨v15, ev15, hf⟩ := o_ls hf
  refine b_topi ev15 ?_
  obtain ⟨V16, eV16, hf⟩ := o_ls hf
  refine b_put hx hb hts in_X1 tyX1 tyX1_ok nmX1 hown hW 0 0 1 12 rfl vW_0 (vW_p12 eV16) rfl rfl (by decide) ⟨rfl, rfl, rfl⟩ (hts _ q165) rfl (ty := .int) rfl rfl rfl (by rw [vW_l]; decide) dX1_adds_77 (fun H locs hW => ?_)
  have hW : bW D g A s H locs [vW g adV V16] := hW
  cases hf
  exact b_vret hx hb hr hlk hE hW () rfl trivial rfl dX1_adds_80
def f_X1_empties_L18  (rec3 : (Int32 × BC) → Option BC) : Int32 × BC → Option BC
  | (v4, V5) =>
    (if (V5.1 0 1) ≤ v4 then
     some V5
     else
     o_ck (inB v4 6) (o_lt (bI V5 (11 + ix v4) (fillF (V5.1 (11 + ix v4)) 6 0)) fun (V8 : BC) =>
     o_lt (v4 + 1) fun (v9 : Int32) =>
     rec3 (v9, V8)))
def f_X1_empties (fu : Nat) (V : BC) : Option BC :=
 o_lt (bI V 17 (fillF (V.1 17) 6 0)) fun (V1 : BC) =>
 o_lt (bI V1 18 (fillF (V1.1 18) 6 0)) fun (V2 : BC) =>
 o_lp (f_X1_empties_L18) fu (0, V2)
abbrev rm_X1_empties : Room := { frames := 1, cells := 0, slots := 0, locals := 23 }
set_option maxHeartbeats 4000000 in
set_option maxRecDepth 100000 in
theorem m_X1_empties (l : Launch) (D : va_G) (g : Nat → ClassId) (sz : Nat) (adV : Nat → Nat) (fu : Nat) (V : BC) (VO : BC) (hf : f_X1_empties fu V = some VO) : bMet (S := Unit) l yX1_empties (ws_ yX1_empties cX1_empties 2 none) rm_X1_empties D g sz [.ref (adV 0)] [vW g adV V] (fun _ => True) (fun _ => none) (fun _ => [vW g adV VO]) := by
  refine b_met (by decide) (Nat.le_of_ble_eq_true rfl) ?_
  intro p e s m args below meth c A Q ls hx hb hml hr hlk hown hname hts hE hl hW
  revert hW; generalize s.heap = H; intro hW
  have hl : lv_has ls 2 [(0, .ref (adV 0))] := hl
  rw [f_X1_empties] at hf
  refine lv_aload_n hx hb dX1_empties_0 rfl (lv_at hl 0 rfl) ?_
  refine b_get hx hb hts in_X1 hown hW 0 0 1 10 rfl vW_0 rfl (by decide) ⟨rfl, rfl, rfl⟩ (hts _ q159) vW_g10 dX1_empties_1 ?_
  refine lv_iconst (v := 0) hx hb dX1_empties_4 (by decide) ?_
  obtain ⟨V1, eV1, hf⟩ := o_ls hf
  have hp1 : List.Perm [vW g adV V] ([vW g adV V] ++ []) := b_perm [0] [] 1 rfl rfl rfl rfl
  refine b_call0 ⟨rfl, rfl⟩ (va_runS (As := [.ref (adV 17), .int 0]) (rest := []) ⟨hx, hb, hml, hown, hts⟩ (m_J16_fill l D g H.size _ _ 17 _ _ _ _ (by decide) vW_17 (vW_s17 eV1)) (va_cwS 2 hts (lw_S q1143 q1144 q105 q1145) rfl rfl rfl (by decide +kernel) ⟨Nat.le_of_ble_eq_true rfl, Nat.le_of_ble_eq_true rfl⟩) (b_preS hW hp1) rfl rfl hl.1 rfl (lv_room (Nat.le_of_ble_eq_true rfl)) dX1_empties_5 ⟨Nat.le_of_ble_eq_true rfl, Nat.le_of_ble_eq_true rfl⟩) hW hp1 (fun _ _ H locs hW => ?_)
  have hW : bW D g A s H locs [vW g adV V1] := hW
  refine lv_aload_n hx hb dX1_empties_8 rfl (lv_at hl 0 rfl) ?_
  refine b_get hx hb hts in_X1 hown hW 0 0 1 11 rfl vW_0 rfl (by decide) ⟨rfl, rfl, rfl⟩ (hts _ q161) vW_g11 dX1_empties_9 ?_
  refine lv_iconst (v := 0) hx hb dX1_empties_12 (by decide) ?_
  obtain ⟨V2, eV2, hf⟩ := o_ls hf
  have hp2 : List.Perm [vW g adV V1] ([vW g adV V1] ++ []) := b_perm [0] [] 1 rfl rfl rfl rfl
  refine b_call0 ⟨rfl, rfl⟩ (va_runS (As := [.ref (adV 18), .int 0]) (rest := []) ⟨hx, hb, hml, hown, hts⟩ (m_J16_fill l D g H.size _ _ 18 _ _ _ _ (by decide) vW_18 (vW_s18 eV2)) (va_cwS 2 hts (lw_S q1143 q1144 q105 q1145) rfl rfl rfl (by decide +kernel) ⟨Nat.le_of_ble_eq_true rfl, Nat.le_of_ble_eq_true rfl⟩) (b_preS hW hp2) rfl rfl hl.1 rfl (lv_room (Nat.le_of_ble_eq_true rfl)) dX1_empties_13 ⟨Nat.le_of_ble_eq_true rfl, Nat.le_of_ble_eq_true rfl⟩) hW hp2 (fun _ _ H locs hW => ?_)
  have hW : bW D g A s H locs [vW g adV V2] := hW
  refine lv_iconst (v := 0) hx hb dX1_empties_16 (by decide) ?_
  refine lv_istore_n (lv' := [(1, .int 0), (0, .ref (adV 0))]) hx hb dX1_empties_17 rfl hl (by decide) rfl (fun ls hl => ?_)
  obtain ⟨stp3, est3, hf⟩ := o_ln hf
  have L3 : ∀ (n : Nat) (v4 : Int32) (V5 : BC) (H : Heap) (locs : List Loc) (ls : Array Slot), bW D g A s H locs [vW g adV V5] → lv_has ls 2 [(1, .int v4), (0, .ref (adV 0))] → o_lp stp3 n (v4, V5) = some VO → W p l e rm_X1_empties s m args below meth c H locs 0 0 Q (F0 m 18 ls []) := by
    intro n3
    induction n3 with
    | zero => intro v4 V5 H locs ls hW hl hf; exact (o_lz hf).elim
    | succ n3 ih3 =>
      intro v4 V5 H locs ls hW hl hf
      have hf := o_lu est3 hf
      rw [f_X1_empties_L18] at hf
      refine lv_iload_n hx hb dX1_empties_18 rfl (lv_at hl 0 rfl) ?_
      refine lv_aload_n hx hb dX1_empties_19 rfl (lv_at hl 1 rfl) ?_
      refine b_get hx hb hts in_X1 hown hW 0 0 1 13 rfl vW_0 rfl (by decide) ⟨rfl, rfl, rfl⟩ (hts _ q168) vW_g13 dX1_empties_20 ?_
      refine lv_icmp_ge (tgt := 42) hx hb dX1_empties_23 (by decide) (fun c6 => ?_) (fun c6 => ?_)
      · have hf := o_t hf c6
        cases hf
        exact b_vret hx hb hr hlk hE hW () rfl trivial rfl dX1_empties_42
      · have hf := o_f hf c6
        refine lv_aload_n hx hb dX1_empties_26 rfl (lv_at hl 1 rfl) ?_
        refine b_get hx hb hts in_X1 hown hW 0 0 1 9 rfl vW_0 rfl (by decide) ⟨rfl, rfl, rfl⟩ (hts _ q157) vW_g9 dX1_empties_27 ?_
        refine lv_iload_n hx hb dX1_empties_30 rfl (lv_at hl 0 rfl) ?_
        obtain ⟨h7, hf⟩ := o_cs hf
        refine b_agrI hx hb hW 0 10 rfl vW_10 h7 dX1_empties_31 ?_
        refine lv_iconst (v := 0) hx hb dX1_empties_32 (by decide) ?_
        obtain ⟨V8, eV8, hf⟩ := o_ls hf
        have hp8 : List.Perm [vW g adV V5] ([vW g adV V5] ++ []) := b_perm [0] [] 1 rfl rfl rfl rfl
        refine b_call0 ⟨rfl, rfl⟩ (va_runS (As := [.ref (adV (11 + ix v4)), .int 0]) (rest := []) ⟨hx, hb, hml, hown, hts⟩ (m_J16_fill l D g H.size _ _ (11 + ix v4) _ _ _ _ (by decide) (vW_r11 (inB_lt h7)) (vW_rs11 (inB_lt h7) eV8)) (va_cwS 2 hts (lw_S q1143 q1144 q105 q1145) rfl rfl rfl (by decide +kernel) ⟨Nat.le_of_ble_eq_true rfl, Nat.le_of_ble_eq_true rfl⟩) (b_preS hW hp8) rfl rfl hl.1 rfl (lv_room (Nat.le_of_ble_eq_true rfl)) dX1_empties_33 ⟨Nat.le_of_ble_eq_true rfl, Nat.le_of_ble_eq_true rfl⟩) hW hp8 (fun _ _ H locs hW => ?_)
        have hW : bW D g A s H locs [vW g adV V8] := hW
        obtain ⟨v9, ev9, hf⟩ := o_ls hf
        refine lv_iinc (v := v9) (lv' := [(1, .int v9), (0, .ref (adV 0))]) hx hb dX1_empties_36 hl (k := 0) rfl ev9 (by decide) rfl (fun ls hl => ?_)
        refine lv_goto (tgt := 18) hx hb dX1_empties_39 (by decide) ?_
        exact ih3 _ _ _ _ _ hW (lv_sub hl [0, 1] rfl) hf
  exact L3 _ _ _ _ _ _ hW (lv_sub hl [0, 1] rfl) hf
