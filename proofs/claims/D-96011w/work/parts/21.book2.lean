/-! EverybodyHasTheBook, second half: printed by gen/all.py -/
set_option maxRecDepth 100000
def f_X0_lean (X : BC) (N : BC) (x1 : Int32) : Option (Int32 × BC) :=
 o_b1 (f_X1_isInn N x1) fun (r1 : Int32) =>
 (if r1 = 0 then
 o_b2 (f_X0_noLow X (-2)) fun (r8 : Int32) (X9 : BC) =>
 some (r8, X9)
 else
 o_ck (inB x1 6) ((if (N.1 6 (ix x1)) = 0 then
 o_b2 (f_X0_noLow X (-5)) fun (r6 : Int32) (X7 : BC) =>
 some (r6, X7)
 else
 o_ck (!decide ((N.1 6 (ix x1)) = 0)) (some (((N.1 7 (ix x1)) / (N.1 6 (ix x1))) - (N.1 1 (ix x1)), X)))))
abbrev rm_X0_lean : Room := { frames := 2, cells := 0, slots := 0, locals := 43 }
set_option maxHeartbeats 4000000 in
set_option maxRecDepth 100000 in
theorem m_X0_lean (l : Launch) (D : va_G) (g : Nat → ClassId) (sz : Nat) (adX : Nat → Nat) (iX : Option Nat) (adN : Nat → Nat) (adT : Nat → Nat) (X : BC) (N : BC) (x1 : Int32) (rO : Int32) (XO : BC) (hf : f_X0_lean X N x1 = some (rO, XO)) : bMet (S := Unit) l yX0_lean (ws_ yX0_lean cX0_lean 2 (some .int)) rm_X0_lean D g sz [.ref (adX 0), .int x1] [xW g adX (adN 0) (adT 0) iX X, vW g adN N] (fun _ => True) (fun _ => some (.int rO)) (fun _ => [xW g adX (adN 0) (adT 0) iX XO, vW g adN N]) := by
  refine b_met (by decide) (Nat.le_of_ble_eq_true rfl) ?_
  intro p e s m args below meth c A Q ls hx hb hml hr hlk hown hname hts hE hl hW
  revert hW; generalize s.heap = H; intro hW
  have hl : lv_has ls 2 [(0, .ref (adX 0)), (1, .int x1)] := hl
  rw [f_X0_lean] at hf
  refine lv_aload_n hx hb dX0_lean_0 rfl (lv_at hl 0 rfl) ?_
  refine b_get hx hb hts in_X0 hown hW 0 0 0 0 rfl xW_0 rfl (by decide) ⟨rfl, rfl, rfl⟩ (hts _ q227) xW_g0 dX0_lean_1 ?_
  refine lv_iload_n hx hb dX0_lean_4 rfl (lv_at hl 1 rfl) ?_
  obtain ⟨r1, hc1, hf⟩ := o_b1s hf
  have hp1 : List.Perm [xW g adX (adN 0) (adT 0) iX X, vW g adN N] ([vW g adN N] ++ [xW g adX (adN 0) (adT 0) iX X]) := b_perm [1] [0] 2 rfl rfl rfl rfl
  refine b_call0 ⟨rfl, rfl⟩ (va_runV (As := [.int x1]) (rest := []) ⟨hx, hb, hml, hown, hts⟩ (m_X1_isInn l D g H.size adN N x1 r1 hc1) (cwV 1 hts (lw_V q672 q673 q674 q77 q675) rfl rfl rfl (by decide +kernel) ⟨Nat.le_of_ble_eq_true rfl, Nat.le_of_ble_eq_true rfl⟩) (b_preV (pp := 1) (q := 0) hW hp1 rfl vW_0 rfl) rfl rfl hl.1 rfl (lv_room (Nat.le_of_ble_eq_true rfl)) dX0_lean_5 ⟨Nat.le_of_ble_eq_true rfl, Nat.le_of_ble_eq_true rfl⟩) hW hp1 (fun _ _ H locs hW => ?_)
  have hW : bW D g A s H locs [vW g adN N, xW g adX (adN 0) (adT 0) iX X] := hW
  refine lv_if_ne (tgt := 18) hx hb dX0_lean_8 (by decide) (fun c2 => ?_) (fun c2 => ?_)
  · have hf := o_f hf c2
    refine lv_aload_n hx hb dX0_lean_18 rfl (lv_at hl 0 rfl) ?_
    refine b_get hx hb hts in_X0 hown hW 1 0 0 0 rfl xW_0 rfl (by decide) ⟨rfl, rfl, rfl⟩ (hts _ q227) xW_g0 dX0_lean_19 ?_
    refine b_get hx hb hts in_X1 hown hW 0 0 1 5 rfl vW_0 rfl (by decide) ⟨rfl, rfl, rfl⟩ (hts _ q149) vW_g5 dX0_lean_22 ?_
    refine lv_iload_n hx hb dX0_lean_25 rfl (lv_at hl 1 rfl) ?_
    obtain ⟨h3, hf⟩ := o_cs hf
    refine b_iald hx hb hW 0 6 rfl vW_6 h3 dX0_lean_26 ?_
    refine lv_if_ne (tgt := 39) hx hb dX0_lean_27 (by decide) (fun c4 => ?_) (fun c4 => ?_)
    · have hf := o_f hf c4
      refine lv_aload_n hx hb dX0_lean_39 rfl (lv_at hl 0 rfl) ?_
      refine b_get hx hb hts in_X0 hown hW 1 0 0 0 rfl xW_0 rfl (by decide) ⟨rfl, rfl, rfl⟩ (hts _ q227) xW_g0 dX0_lean_40 ?_
      refine b_get hx hb hts in_X1 hown hW 0 0 1 6 rfl vW_0 rfl (by decide) ⟨rfl, rfl, rfl⟩ (hts _ q152) vW_g6 dX0_lean_43 ?_
      refine lv_iload_n hx hb dX0_lean_46 rfl (lv_at hl 1 rfl) ?_
      refine b_iald hx hb hW 0 7 rfl vW_7 h3 dX0_lean_47 ?_
      refine lv_aload_n hx hb dX0_lean_48 rfl (lv_at hl 0 rfl) ?_
      refine b_get hx hb hts in_X0 hown hW 1 0 0 0 rfl xW_0 rfl (by decide) ⟨rfl, rfl, rfl⟩ (hts _ q227) xW_g0 dX0_lean_49 ?_
      refine b_get hx hb hts in_X1 hown hW 0 0 1 5 rfl vW_0 rfl (by decide) ⟨rfl, rfl, rfl⟩ (hts _ q149) vW_g5 dX0_lean_52 ?_
      refine lv_iload_n hx hb dX0_lean_55 rfl (lv_at hl 1 rfl) ?_
      refine b_iald hx hb hW 0 6 rfl vW_6 h3 dX0_lean_56 ?_
      obtain ⟨h5, hf⟩ := o_cs hf
      refine lv_idiv hx hb dX0_lean_57 (o_nz h5) ?_
      refine lv_aload_n hx hb dX0_lean_58 rfl (lv_at hl 0 rfl) ?_
      refine b_get hx hb hts in_X0 hown hW 1 0 0 0 rfl xW_0 rfl (by decide) ⟨rfl, rfl, rfl⟩ (hts _ q227) xW_g0 dX0_lean_59 ?_
      refine b_get hx hb hts in_X1 hown hW 0 0 1 0 rfl vW_0 rfl (by decide) ⟨rfl, rfl, rfl⟩ (hts _ q131) vW_g0 dX0_lean_62 ?_
      refine lv_iload_n hx hb dX0_lean_65 rfl (lv_at hl 1 rfl) ?_
      refine b_iald hx hb hW 0 1 rfl vW_1 h3 dX0_lean_66 ?_
      refine lv_isub hx hb dX0_lean_67 ?_
      cases hf
      exact b_iret hx hb hr hlk hE (b_perms hW (b_ord [1, 0] 2 rfl rfl rfl)) () rfl trivial rfl dX0_lean_68
    · have hf := o_t hf c4
      refine lv_aload_n hx hb dX0_lean_30 rfl (lv_at hl 0 rfl) ?_
      refine lv_bipush (v := (-5)) hx hb dX0_lean_31 (by decide) ?_
      obtain ⟨r6, X7, hc7, hf⟩ := o_b2s hf
      have hp7 : List.Perm [vW g adN N, xW g adX (adN 0) (adT 0) iX X] ([xW g adX (adN 0) (adT 0) iX X] ++ [vW g adN N]) := b_perm [1] [0] 2 rfl rfl rfl rfl
      refine b_call0 ⟨rfl, rfl⟩ (va_runV (As := [.int (-5)]) (rest := []) ⟨hx, hb, hml, hown, hts⟩ (m_X0_noLow l D g H.size adX iX adN adT X (-5) r6 X7 hc7) (cwV 1 hts (lw_V q1126 q1128 qs18 q76 q1129) rfl rfl rfl (by decide +kernel) ⟨Nat.le_of_ble_eq_true rfl, Nat.le_of_ble_eq_true rfl⟩) (b_preV (pp := 1) (q := 0) hW hp7 rfl xW_0 rfl) rfl rfl hl.1 rfl (lv_room (Nat.le_of_ble_eq_true rfl)) dX0_lean_33 ⟨Nat.le_of_ble_eq_true rfl, Nat.le_of_ble_eq_true rfl⟩) hW hp7 (fun _ _ H locs hW => ?_)
      have hW : bW D g A s H locs [xW g adX (adN 0) (adT 0) iX X7, vW g adN N] := hW
      refine lv_goto (tgt := 68) hx hb dX0_lean_36 (by decide) ?_
      cases hf
      exact b_iret hx hb hr hlk hE hW () rfl trivial rfl dX0_lean_68
  · have hf := o_t hf c2
    refine lv_aload_n hx hb dX0_lean_11 rfl (lv_at hl 0 rfl) ?_
    refine lv_bipush (v := (-2)) hx hb dX0_lean_12 (by decide) ?_
    obtain ⟨r8, X9, hc9, hf⟩ := o_b2s hf
    have hp9 : List.Perm [vW g adN N, xW g adX (adN 0) (adT 0) iX X] ([xW g adX (adN 0) (adT 0) iX X] ++ [vW g adN N]) := b_perm [1] [0] 2 rfl rfl rfl rfl
    refine b_call0 ⟨rfl, rfl⟩ (va_runV (As := [.int (-2)]) (rest := []) ⟨hx, hb, hml, hown, hts⟩ (m_X0_noLow l D g H.size adX iX adN adT X (-2) r8 X9 hc9) (cwV 1 hts (lw_V q1126 q1128 qs18 q76 q1129) rfl rfl rfl (by decide +kernel) ⟨Nat.le_of_ble_eq_true rfl, Nat.le_of_ble_eq_true rfl⟩) (b_preV (pp := 1) (q := 0) hW hp9 rfl xW_0 rfl) rfl rfl hl.1 rfl (lv_room (Nat.le_of_ble_eq_true rfl)) dX0_lean_14 ⟨Nat.le_of_ble_eq_true rfl, Nat.le_of_ble_eq_true rfl⟩) hW hp9 (fun _ _ H locs hW => ?_)
    have hW : bW D g A s H locs [xW g adX (adN 0) (adT 0) iX X9, vW g adN N] := hW
    cases hf
    exact b_iret hx hb hr hlk hE hW () rfl trivial rfl dX0_lean_17
def f_X0_truest_L4 (X : BC) (N : BC) (rec1 : (Int32 × Int32) → Option (Int32 × BC)) : Int32 × Int32 → Option (Int32 × BC)
  | (v2, v3) =>
    (if (N.1 0 0) ≤ v3 then
     (if v2 = (-1) then
     o_b2 (f_X0_no X (-5)) fun (r6 : Int32) (X7 : BC) =>
     some (r6, X7)
     else
     some (v2, X))
     else
     (if v2 = (-1) then
     o_lt (v3 + 1) fun (v9 : Int32) =>
     rec1 (v3, v9)
     else
     o_ck (inB v3 6) (o_ck (inB v2 6) ((if ((N.1 1 (ix v3)) - (N.1 4 (ix v3))) ≤ ((N.1 1 (ix v2)) - (N.1 4 (ix v2))) then
     o_lt (v3 + 1) fun (v13 : Int32) =>
     rec1 (v2, v13)
     else
     o_lt (v3 + 1) fun (v14 : Int32) =>
     rec1 (v3, v14))))))
def f_X0_truest (fu : Nat) (X : BC) (N : BC) (T : BC) (L : List Nat) (kd : Nat → Nat) (nu : Nat → Int32) (aa : Nat → Int32) : Option (Int32 × BC) :=
 o_lp (f_X0_truest_L4 X N) fu ((-1), 0)
abbrev rm_X0_truest : Room := { frames := 1, cells := 0, slots := 0, locals := 21 }
set_option maxHeartbeats 4000000 in
set_option maxRecDepth 100000 in
theorem m_X0_truest (l : Launch) (D : va_G) (g : Nat → ClassId) (sz : Nat) (adX : Nat → Nat) (iX : Option Nat) (adN : Nat → Nat) (adT : Nat → Nat) (fu : Nat) (X : BC) (N : BC) (T : BC) (L : List Nat) (kd : Nat → Nat) (nu : Nat → Int32) (aa : Nat → Int32) (rO : Int32) (XO : BC) (hf : f_X0_truest fu X N T L kd nu aa = some (rO, XO)) : bMet (S := Unit) l yX0_truest (ws_ yX0_truest cX0_truest 3 (some .int)) rm_X0_truest D g sz [.ref (adX 0)] [xW g adX (adN 0) (adT 0) iX X, vW g adN N, vW g adT T, gW L kd nu aa] (fun _ => True) (fun _ => some (.int rO)) (fun _ => [xW g adX (adN 0) (adT 0) iX XO, vW g adN N, vW g adT T, gW L kd nu aa]) := by
  refine b_met (by decide) (Nat.le_of_ble_eq_true rfl) ?_
  intro p e s m args below meth c A Q ls hx hb hml hr hlk hown hname hts hE hl hW
  revert hW; generalize s.heap = H; intro hW
  have hl : lv_has ls 3 [(0, .ref (adX 0))] := hl
  rw [f_X0_truest] at hf
  refine lv_iconst (v := (-1)) hx hb dX0_truest_0 (by decide) ?_
  refine lv_istore_n (lv' := [(1, .int (-1)), (0, .ref (adX 0))]) hx hb dX0_truest_1 rfl hl (by decide) rfl (fun ls hl => ?_)
  refine lv_iconst (v := 0) hx hb dX0_truest_2 (by decide) ?_
  refine lv_istore_n (lv' := [(2, .int 0), (1, .int (-1)), (0, .ref (adX 0))]) hx hb dX0_truest_3 rfl hl (by decide) rfl (fun ls hl => ?_)
  obtain ⟨stp1, est1, hf⟩ := o_ln hf
  have L1 : ∀ (n : Nat) (v2 : Int32) (v3 : Int32) (H : Heap) (locs : List Loc) (ls : Array Slot), bW D g A s H locs [xW g adX (adN 0) (adT 0) iX X, vW g adN N, vW g adT T, gW L kd nu aa] → lv_has ls 3 [(2, .int v3), (1, .int v2), (0, .ref (adX 0))] → o_lp stp1 n (v2, v3) = some (rO, XO) → W p l e rm_X0_truest s m args below meth c H locs 0 0 Q (F0 m 4 ls []) := by
    intro n1
    induction n1 with
    | zero => intro v2 v3 H locs ls hW hl hf; exact (o_lz hf).elim
    | succ n1 ih1 =>
      intro v2 v3 H locs ls hW hl hf
      have hf := o_lu est1 hf
      rw [f_X0_truest_L4] at hf
      refine lv_iload_n hx hb dX0_truest_4 rfl (lv_at hl 0 rfl) ?_
      refine lv_aload_n hx hb dX0_truest_5 rfl (lv_at hl 2 rfl) ?_
      refine b_get hx hb hts in_X0 hown hW 0 0 0 0 rfl xW_0 rfl (by decide) ⟨rfl, rfl, rfl⟩ (hts _ q227) xW_g0 dX0_truest_6 ?_
      refine b_get hx hb hts in_X1 hown hW 1 0 1 12 rfl vW_0 rfl (by decide) ⟨rfl, rfl, rfl⟩ (hts _ q167) vW_g12 dX0_truest_9 ?_
      refine lv_icmp_ge (tgt := 73) hx hb dX0_truest_12 (by decide) (fun c4 => ?_) (fun c4 => ?_)
      · have hf := o_t hf c4
        refine lv_iload_n hx hb dX0_truest_73 rfl (lv_at hl 1 rfl) ?_
        refine lv_iconst (v := (-1)) hx hb dX0_truest_74 (by decide) ?_
        refine lv_icmp_ne (tgt := 87) hx hb dX0_truest_75 (by decide) (fun c5 => ?_) (fun c5 => ?_)
        · have hf := o_f hf c5
          refine lv_iload_n hx hb dX0_truest_87 rfl (lv_at hl 1 rfl) ?_
          cases hf
          exact b_iret hx hb hr hlk hE hW () rfl trivial rfl dX0_truest_88
        · have hf := o_t hf c5
          refine lv_aload_n hx hb dX0_truest_78 rfl (lv_at hl 2 rfl) ?_
          refine lv_bipush (v := (-5)) hx hb dX0_truest_79 (by decide) ?_
          obtain ⟨r6, X7, hc7, hf⟩ := o_b2s hf
          have hp7 : List.Perm [xW g adX (adN 0) (adT 0) iX X, vW g adN N, vW g adT T, gW L kd nu aa] ([xW g adX (adN 0) (adT 0) iX X] ++ [vW g adN N, vW g adT T, gW L kd nu aa]) := b_perm [0] [1, 2, 3] 4 rfl rfl rfl rfl
          refine b_call0 ⟨rfl, rfl⟩ (va_runV (As := [.int (-5)]) (rest := []) ⟨hx, hb, hml, hown, hts⟩ (m_X0_no l D g H.size adX iX adN adT X (-5) r6 X7 hc7) (cwV 1 hts (lw_V q347 q349 qs2 q76 q350) rfl rfl rfl (by decide +kernel) ⟨Nat.le_of_ble_eq_true rfl, Nat.le_of_ble_eq_true rfl⟩) (b_preV (pp := 0) (q := 0) hW hp7 rfl xW_0 rfl) rfl rfl hl.1 rfl (lv_room (Nat.le_of_ble_eq_true rfl)) dX0_truest_81 ⟨Nat.le_of_ble_eq_true rfl, Nat.le_of_ble_eq_true rfl⟩) hW hp7 (fun _ _ H locs hW => ?_)
          have hW : bW D g A s H locs [xW g adX (adN 0) (adT 0) iX X7, vW g adN N, vW g adT T, gW L kd nu aa] := hW
          refine lv_goto (tgt := 88) hx hb dX0_truest_84 (by decide) ?_
          cases hf
          exact b_iret hx hb hr hlk hE hW () rfl trivial rfl dX0_truest_88
      · have hf := o_f hf c4
        refine lv_iload_n hx hb dX0_truest_15 rfl (lv_at hl 1 rfl) ?_
        refine lv_iconst (v := (-1)) hx hb dX0_truest_16 (by decide) ?_
        refine lv_icmp_eq (tgt := 61) hx hb dX0_truest_17 (by decide) (fun c8 => ?_) (fun c8 => ?_)
        · have hf := o_t hf c8
          refine lv_iload_n hx hb dX0_truest_61 rfl (lv_at hl 0 rfl) ?_
          refine lv_goto (tgt := 66) hx hb dX0_truest_62 (by decide) ?_
          refine lv_istore_n (lv' := [(1, .int v3), (2, .int v3), (0, .ref (adX 0))]) hx hb dX0_truest_66 rfl hl (by decide) rfl (fun ls hl => ?_)
          obtain ⟨v9, ev9, hf⟩ := o_ls hf
          refine lv_iinc (v := v9) (lv' := [(2, .int v9), (1, .int v3), (0, .ref (adX 0))]) hx hb dX0_truest_67 hl (k := 1) rfl ev9 (by decide) rfl (fun ls hl => ?_)
          refine lv_goto (tgt := 4) hx hb dX0_truest_70 (by decide) ?_
          exact ih1 _ _ _ _ _ hW (lv_sub hl [0, 1, 2] rfl) hf
        · have hf := o_f hf c8
          refine lv_aload_n hx hb dX0_truest_20 rfl (lv_at hl 2 rfl) ?_
          refine b_get hx hb hts in_X0 hown hW 0 0 0 0 rfl xW_0 rfl (by decide) ⟨rfl, rfl, rfl⟩ (hts _ q227) xW_g0 dX0_truest_21 ?_
          refine b_get hx hb hts in_X1 hown hW 1 0 1 0 rfl vW_0 rfl (by decide) ⟨rfl, rfl, rfl⟩ (hts _ q131) vW_g0 dX0_truest_24 ?_
          refine lv_iload_n hx hb dX0_truest_27 rfl (lv_at hl 0 rfl) ?_
          obtain ⟨h10, hf⟩ := o_cs hf
          refine b_iald hx hb hW 1 1 rfl vW_1 h10 dX0_truest_28 ?_
          refine lv_aload_n hx hb dX0_truest_29 rfl (lv_at hl 2 rfl) ?_
          refine b_get hx hb hts in_X0 hown hW 0 0 0 0 rfl xW_0 rfl (by decide) ⟨rfl, rfl, rfl⟩ (hts _ q227) xW_g0 dX0_truest_30 ?_
          refine b_get hx hb hts in_X1 hown hW 1 0 1 3 rfl vW_0 rfl (by decide) ⟨rfl, rfl, rfl⟩ (hts _ q139) vW_g3 dX0_truest_33 ?_
          refine lv_iload_n hx hb dX0_truest_36 rfl (lv_at hl 0 rfl) ?_
          refine b_iald hx hb hW 1 4 rfl vW_4 h10 dX0_truest_37 ?_
          refine lv_isub hx hb dX0_truest_38 ?_
          refine lv_aload_n hx hb dX0_truest_39 rfl (lv_at hl 2 rfl) ?_
          refine b_get hx hb hts in_X0 hown hW 0 0 0 0 rfl xW_0 rfl (by decide) ⟨rfl, rfl, rfl⟩ (hts _ q227) xW_g0 dX0_truest_40 ?_
          refine b_get hx hb hts in_X1 hown hW 1 0 1 0 rfl vW_0 rfl (by decide) ⟨rfl, rfl, rfl⟩ (hts _ q131) vW_g0 dX0_truest_43 ?_
          refine lv_iload_n hx hb dX0_truest_46 rfl (lv_at hl 1 rfl) ?_
          obtain ⟨h11, hf⟩ := o_cs hf
          refine b_iald hx hb hW 1 1 rfl vW_1 h11 dX0_truest_47 ?_
          refine lv_aload_n hx hb dX0_truest_48 rfl (lv_at hl 2 rfl) ?_
          refine b_get hx hb hts in_X0 hown hW 0 0 0 0 rfl xW_0 rfl (by decide) ⟨rfl, rfl, rfl⟩ (hts _ q227) xW_g0 dX0_truest_49 ?_
          refine b_get hx hb hts in_X1 hown hW 1 0 1 3 rfl vW_0 rfl (by decide) ⟨rfl, rfl, rfl⟩ (hts _ q139) vW_g3 dX0_truest_52 ?_
          refine lv_iload_n hx hb dX0_truest_55 rfl (lv_at hl 1 rfl) ?_
          refine b_iald hx hb hW 1 4 rfl vW_4 h11 dX0_truest_56 ?_
          refine lv_isub hx hb dX0_truest_57 ?_
          refine lv_icmp_le (tgt := 65) hx hb dX0_truest_58 (by decide) (fun c12 => ?_) (fun c12 => ?_)
          · have hf := o_t hf c12
            refine lv_iload_n hx hb dX0_truest_65 rfl (lv_at hl 1 rfl) ?_
            refine lv_istore_n (lv' := [(1, .int v2), (2, .int v3), (0, .ref (adX 0))]) hx hb dX0_truest_66 rfl hl (by decide) rfl (fun ls hl => ?_)
            obtain ⟨v13, ev13, hf⟩ := o_ls hf
            refine lv_iinc (v := v13) (lv' := [(2, .int v13), (1, .int v2), (0, .ref (adX 0))]) hx hb dX0_truest_67 hl (k := 1) rfl ev13 (by decide) rfl (fun ls hl => ?_)
            refine lv_goto (tgt := 4) hx hb dX0_truest_70 (by decide) ?_
            exact ih1 _ _ _ _ _ hW (lv_sub hl [0, 1, 2] rfl) hf
          · have hf := o_f hf c12
            refine lv_iload_n hx hb dX0_truest_61 rfl (lv_at hl 0 rfl) ?_
            refine lv_goto (tgt := 66) hx hb dX0_truest_62 (by decide) ?_
            refine lv_istore_n (lv' := [(1, .int v3), (2, .int v3), (0, .ref (adX 0))]) hx hb dX0_truest_66 rfl hl (by decide) rfl (fun ls hl => ?_)
            obtain ⟨v14, ev14, hf⟩ := o_ls hf
            refine lv_iinc (v := v14) (lv' := [(2, .int v14), (1, .int v3), (0, .ref (adX 0))]) hx hb dX0_truest_67 hl (k := 1) rfl ev14 (by decide) rfl (fun ls hl => ?_)
            refine lv_goto (tgt := 4) hx hb dX0_truest_70 (by decide) ?_
            exact ih1 _ _ _ _ _ hW (lv_sub hl [0, 1, 2] rfl) hf
  exact L1 _ _ _ _ _ _ hW (lv_sub hl [0, 1, 2] rfl) hf
def f_X0_oldest_L6 (N : BC) (rec1 : (Int32 × Int32 × Int32) → Option Int32) : Int32 × Int32 × Int32 → Option Int32
  | (v2, v3, v4) =>
    (if (N.1 0 0) ≤ v4 then
     some v2
     else
     o_ck (inB v4 6) (o_lt ((if 0 ≤ ((N.1 5 (ix v4)) - (N.1 1 (ix v4))) then ((N.1 5 (ix v4)) - (N.1 1 (ix v4))) else 0 - ((N.1 5 (ix v4)) - (N.1 1 (ix v4))))) fun (v7 : Int32) =>
     (if (N.1 5 (ix v4)) = (-1) then
     o_lt (v4 + 1) fun (v9 : Int32) =>
     rec1 (v2, v3, v9)
     else
     (if v2 = (-1) then
     o_lt (v4 + 1) fun (v11 : Int32) =>
     rec1 (v4, v7, v11)
     else
     (if v7 ≤ v3 then
     o_lt (v4 + 1) fun (v13 : Int32) =>
     rec1 (v2, v3, v13)
     else
     o_lt (v4 + 1) fun (v14 : Int32) =>
     rec1 (v4, v7, v14))))))
def f_X0_oldest (fu : Nat) (X : BC) (N : BC) (T : BC) (L : List Nat) (kd : Nat → Nat) (nu : Nat → Int32) (aa : Nat → Int32) : Option Int32 :=
 o_lp (f_X0_oldest_L6 N) fu ((-1), 0, 0)
abbrev rm_X0_oldest : Room := { frames := 1, cells := 0, slots := 0, locals := 24 }
set_option maxHeartbeats 4000000 in
set_option maxRecDepth 100000 in
theorem m_X0_oldest (l : Launch) (D : va_G) (g : Nat → ClassId) (sz : Nat) (adX : Nat → Nat) (iX : Option Nat) (adN : Nat → Nat) (adT : Nat → Nat) (fu : Nat) (X : BC) (N : BC) (T : BC) (L : List Nat) (kd : Nat → Nat) (nu : Nat → Int32) (aa : Nat → Int32) (rO : Int32) (hf : f_X0_oldest fu X N T L kd nu aa = some rO) : bMet (S := Unit) l yX0_oldest (ws_ yX0_oldest cX0_oldest 5 (some .int)) rm_X0_oldest D g sz [.ref (adX 0)] [xW g adX (adN 0) (adT 0) iX X, vW g adN N, vW g adT T, gW L kd nu aa] (fun _ => True) (fun _ => some (.int rO)) (fun _ => [xW g adX (adN 0) (adT 0) iX X, vW g adN N, vW g adT T, gW L kd nu aa]) := by
  refine b_met (by decide) (Nat.le_of_ble_eq_true rfl) ?_
  intro p e s m args below meth c A Q ls hx hb hml hr hlk hown hname hts hE hl hW
  revert hW; generalize s.heap = H; intro hW
  have hl : lv_has ls 5 [(0, .ref (adX 0))] := hl
  rw [f_X0_oldest] at hf
  refine lv_iconst (v := (-1)) hx hb dX0_oldest_0 (by decide) ?_
  refine lv_istore_n (lv' := [(1, .int (-1)), (0, .ref (adX 0))]) hx hb dX0_oldest_1 rfl hl (by decide) rfl (fun ls hl => ?_)
  refine lv_iconst (v := 0) hx hb dX0_oldest_2 (by decide) ?_
  refine lv_istore_n (lv' := [(2, .int 0), (1, .int (-1)), (0, .ref (adX 0))]) hx hb dX0_oldest_3 rfl hl (by decide) rfl (fun ls hl => ?_)
  refine lv_iconst (v := 0) hx hb dX0_oldest_4 (by decide) ?_
  refine lv_istore_n (lv' := [(3, .int 0), (2, .int 0), (1, .int (-1)), (0, .ref (adX 0))]) hx hb dX0_oldest_5 rfl hl (by decide) rfl (fun ls hl => ?_)
  obtain ⟨stp1, est1, hf⟩ := o_ln hf
  have L1 : ∀ (n : Nat) (v2 : Int32) (v3 : Int32) (v4 : Int32) (H : Heap) (locs : List Loc) (ls : Array Slot), bW D g A s H locs [xW g adX (adN 0) (adT 0) iX X, vW g adN N, vW g adT T, gW L kd nu aa] → lv_has ls 5 [(3, .int v4), (2, .int v3), (1, .int v2), (0, .ref (adX 0))] → o_lp stp1 n (v2, v3, v4) = some rO → W p l e rm_X0_oldest s m args below meth c H locs 0 0 Q (F0 m 6 ls []) := by
    intro n1
    induction n1 with
    | zero => intro v2 v3 v4 H locs ls hW hl hf; exact (o_lz hf).elim
    | succ n1 ih1 =>
      intro v2 v3 v4 H locs ls hW hl hf
      have hf := o_lu est1 hf
      rw [f_X0_oldest_L6] at hf
      refine lv_iload_n hx hb dX0_oldest_6 rfl (lv_at hl 0 rfl) ?_
      refine lv_aload_n hx hb dX0_oldest_7 rfl (lv_at hl 3 rfl) ?_
      refine b_get hx hb hts in_X0 hown hW 0 0 0 0 rfl xW_0 rfl (by decide) ⟨rfl, rfl, rfl⟩ (hts _ q227) xW_g0 dX0_oldest_8 ?_
      refine b_get hx hb hts in_X1 hown hW 1 0 1 12 rfl vW_0 rfl (by decide) ⟨rfl, rfl, rfl⟩ (hts _ q167) vW_g12 dX0_oldest_11 ?_
      refine lv_icmp_ge (tgt := 76) hx hb dX0_oldest_14 (by decide) (fun c5 => ?_) (fun c5 => ?_)
      · have hf := o_t hf c5
        refine lv_iload_n hx hb dX0_oldest_76 rfl (lv_at hl 2 rfl) ?_
        cases hf
        exact b_iret hx hb hr hlk hE hW () rfl trivial rfl dX0_oldest_77
      · have hf := o_f hf c5
        refine lv_aload_n hx hb dX0_oldest_17 rfl (lv_at hl 3 rfl) ?_
        refine b_get hx hb hts in_X0 hown hW 0 0 0 0 rfl xW_0 rfl (by decide) ⟨rfl, rfl, rfl⟩ (hts _ q227) xW_g0 dX0_oldest_18 ?_
        refine b_get hx hb hts in_X1 hown hW 1 0 1 4 rfl vW_0 rfl (by decide) ⟨rfl, rfl, rfl⟩ (hts _ q145) vW_g4 dX0_oldest_21 ?_
        refine lv_iload_n hx hb dX0_oldest_24 rfl (lv_at hl 0 rfl) ?_
        obtain ⟨h6, hf⟩ := o_cs hf
        refine b_iald hx hb hW 1 5 rfl vW_5 h6 dX0_oldest_25 ?_
        refine lv_aload_n hx hb dX0_oldest_26 rfl (lv_at hl 3 rfl) ?_
        refine b_get hx hb hts in_X0 hown hW 0 0 0 0 rfl xW_0 rfl (by decide) ⟨rfl, rfl, rfl⟩ (hts _ q227) xW_g0 dX0_oldest_27 ?_
        refine b_get hx hb hts in_X1 hown hW 1 0 1 0 rfl vW_0 rfl (by decide) ⟨rfl, rfl, rfl⟩ (hts _ q131) vW_g0 dX0_oldest_30 ?_
        refine lv_iload_n hx hb dX0_oldest_33 rfl (lv_at hl 0 rfl) ?_
        refine b_iald hx hb hW 1 1 rfl vW_1 h6 dX0_oldest_34 ?_
        refine lv_isub hx hb dX0_oldest_35 ?_
        refine va_mabs hx hb (by rw [hml]; exact hl.1.symm) hown (hts _ q1216) (hts _ q1217) (hts _ q92) (hts _ q1218) (Nat.le_of_ble_eq_true rfl) (Nat.le_of_ble_eq_true rfl) (Nat.le_of_ble_eq_true rfl) (Nat.le_of_ble_eq_true rfl) dX0_oldest_36 ?_
        obtain ⟨v7, ev7, hf⟩ := o_ls hf
        refine b_topi ev7 ?_
        refine lv_istore (lv' := [(4, .int v7), (3, .int v4), (2, .int v3), (1, .int v2), (0, .ref (adX 0))]) hx hb dX0_oldest_39 hl (by decide) rfl (fun ls hl => ?_)
        refine lv_aload_n hx hb dX0_oldest_41 rfl (lv_at hl 4 rfl) ?_
        refine b_get hx hb hts in_X0 hown hW 0 0 0 0 rfl xW_0 rfl (by decide) ⟨rfl, rfl, rfl⟩ (hts _ q227) xW_g0 dX0_oldest_42 ?_
        refine b_get hx hb hts in_X1 hown hW 1 0 1 4 rfl vW_0 rfl (by decide) ⟨rfl, rfl, rfl⟩ (hts _ q145) vW_g4 dX0_oldest_45 ?_
        refine lv_iload_n hx hb dX0_oldest_48 rfl (lv_at hl 1 rfl) ?_
        refine b_iald hx hb hW 1 5 rfl vW_5 h6 dX0_oldest_49 ?_
        refine lv_iconst (v := (-1)) hx hb dX0_oldest_50 (by decide) ?_
        refine lv_icmp_eq (tgt := 70) hx hb dX0_oldest_51 (by decide) (fun c8 => ?_) (fun c8 => ?_)
        · have hf := o_t hf c8
          obtain ⟨v9, ev9, hf⟩ := o_ls hf
          refine lv_iinc (v := v9) (lv' := [(3, .int v9), (4, .int v7), (2, .int v3), (1, .int v2), (0, .ref (adX 0))]) hx hb dX0_oldest_70 hl (k := 1) rfl ev9 (by decide) rfl (fun ls hl => ?_)
          refine lv_goto (tgt := 6) hx hb dX0_oldest_73 (by decide) ?_
          exact ih1 _ _ _ _ _ _ hW (lv_sub hl [0, 2, 3, 4] rfl) hf
        · have hf := o_f hf c8
          refine lv_iload_n hx hb dX0_oldest_54 rfl (lv_at hl 3 rfl) ?_
          refine lv_iconst (v := (-1)) hx hb dX0_oldest_55 (by decide) ?_
          refine lv_icmp_eq (tgt := 65) hx hb dX0_oldest_56 (by decide) (fun c10 => ?_) (fun c10 => ?_)
          · have hf := o_t hf c10
            refine lv_iload_n hx hb dX0_oldest_65 rfl (lv_at hl 1 rfl) ?_
            refine lv_istore_n (lv' := [(1, .int v4), (4, .int v7), (3, .int v4), (2, .int v3), (0, .ref (adX 0))]) hx hb dX0_oldest_66 rfl hl (by decide) rfl (fun ls hl => ?_)
            refine lv_iload hx hb dX0_oldest_67 (lv_at hl 1 rfl) ?_
            refine lv_istore_n (lv' := [(2, .int v7), (1, .int v4), (4, .int v7), (3, .int v4), (0, .ref (adX 0))]) hx hb dX0_oldest_69 rfl hl (by decide) rfl (fun ls hl => ?_)
            obtain ⟨v11, ev11, hf⟩ := o_ls hf
            refine lv_iinc (v := v11) (lv' := [(3, .int v11), (2, .int v7), (1, .int v4), (4, .int v7), (0, .ref (adX 0))]) hx hb dX0_oldest_70 hl (k := 3) rfl ev11 (by decide) rfl (fun ls hl => ?_)
            refine lv_goto (tgt := 6) hx hb dX0_oldest_73 (by decide) ?_
            exact ih1 _ _ _ _ _ _ hW (lv_sub hl [0, 1, 2, 4] rfl) hf
          · have hf := o_f hf c10
            refine lv_iload hx hb dX0_oldest_59 (lv_at hl 0 rfl) ?_
            refine lv_iload_n hx hb dX0_oldest_61 rfl (lv_at hl 2 rfl) ?_
            refine lv_icmp_le (tgt := 70) hx hb dX0_oldest_62 (by decide) (fun c12 => ?_) (fun c12 => ?_)
            · have hf := o_t hf c12
              obtain ⟨v13, ev13, hf⟩ := o_ls hf
              refine lv_iinc (v := v13) (lv' := [(3, .int v13), (4, .int v7), (2, .int v3), (1, .int v2), (0, .ref (adX 0))]) hx hb dX0_oldest_70 hl (k := 1) rfl ev13 (by decide) rfl (fun ls hl => ?_)
              refine lv_goto (tgt := 6) hx hb dX0_oldest_73 (by decide) ?_
              exact ih1 _ _ _ _ _ _ hW (lv_sub hl [0, 2, 3, 4] rfl) hf
            · have hf := o_f hf c12
              refine lv_iload_n hx hb dX0_oldest_65 rfl (lv_at hl 1 rfl) ?_
              refine lv_istore_n (lv' := [(1, .int v4), (4, .int v7), (3, .int v4), (2, .int v3), (0, .ref (adX 0))]) hx hb dX0_oldest_66 rfl hl (by decide) rfl (fun ls hl => ?_)
              refine lv_iload hx hb dX0_oldest_67 (lv_at hl 1 rfl) ?_
              refine lv_istore_n (lv' := [(2, .int v7), (1, .int v4), (4, .int v7), (3, .int v4), (0, .ref (adX 0))]) hx hb dX0_oldest_69 rfl hl (by decide) rfl (fun ls hl => ?_)
              obtain ⟨v14, ev14, hf⟩ := o_ls hf
              refine lv_iinc (v := v14) (lv' := [(3, .int v14), (2, .int v7), (1, .int v4), (4, .int v7), (0, .ref (adX 0))]) hx hb dX0_oldest_70 hl (k := 3) rfl ev14 (by decide) rfl (fun ls hl => ?_)
              refine lv_goto (tgt := 6) hx hb dX0_oldest_73 (by decide) ?_
              exact ih1 _ _ _ _ _ _ hW (lv_sub hl [0, 1, 2, 4] rfl) hf
  exact L1 _ _ _ _ _ _ _ hW (lv_sub hl [0, 1, 2, 3] rfl) hf
def f_X0_tried (X : BC) (N : BC) (T : BC) (L : List Nat) (kd : Nat → Nat) (nu : Nat → Int32) (aa : Nat → Int32) : Option BC :=
 o_b1 (f_X1_becomes T N L kd nu aa) fun (T1 : BC) =>
 some T1
abbrev rm_X0_tried : Room := { frames := 2, cells := 0, slots := 0, locals := 85 }
set_option maxHeartbeats 4000000 in
set_option maxRecDepth 100000 in
theorem m_X0_tried (l : Launch) (D : va_G) (g : Nat → ClassId) (sz : Nat) (adX : Nat → Nat) (iX : Option Nat) (adN : Nat → Nat) (adT : Nat → Nat) (X : BC) (N : BC) (T : BC) (L : List Nat) (kd : Nat → Nat) (nu : Nat → Int32) (aa : Nat → Int32) (TO : BC) (hf : f_X0_tried X N T L kd nu aa = some TO) : bMet (S := Unit) l yX0_tried (ws_ yX0_tried cX0_tried 1 (some (.object "EverybodyHasTheBook$Valley"))) rm_X0_tried D g sz [.ref (adX 0)] [xW g adX (adN 0) (adT 0) iX X, vW g adN N, vW g adT T, gW L kd nu aa] (fun _ => True) (fun _ => some (.ref (adT 0))) (fun _ => [xW g adX (adN 0) (adT 0) iX X, vW g adN N, vW g adT TO, gW L kd nu aa]) := by
  refine b_met (by decide) (Nat.le_of_ble_eq_true rfl) ?_
  intro p e s m args below meth c A Q ls hx hb hml hr hlk hown hname hts hE hl hW
  revert hW; generalize s.heap = H; intro hW
  have hl : lv_has ls 1 [(0, .ref (adX 0))] := hl
  rw [f_X0_tried] at hf
  refine lv_aload_n hx hb dX0_tried_0 rfl (lv_at hl 0 rfl) ?_
  refine b_get hx hb hts in_X0 hown hW 0 0 0 2 rfl xW_0 rfl (by decide) ⟨rfl, rfl, rfl⟩ (hts _ q229) xW_g2 dX0_tried_1 ?_
  refine lv_aload_n hx hb dX0_tried_4 rfl (lv_at hl 0 rfl) ?_
  refine b_get hx hb hts in_X0 hown hW 0 0 0 0 rfl xW_0 rfl (by decide) ⟨rfl, rfl, rfl⟩ (hts _ q227) xW_g0 dX0_tried_5 ?_
  obtain ⟨T1, hc1, hf⟩ := o_b1s hf
  have hp1 : List.Perm [xW g adX (adN 0) (adT 0) iX X, vW g adN N, vW g adT T, gW L kd nu aa] ([vW g adT T, vW g adN N, gW L kd nu aa] ++ [xW g adX (adN 0) (adT 0) iX X]) := b_perm [2, 1, 3] [0] 4 rfl rfl rfl rfl
  refine b_call0 ⟨rfl, rfl⟩ (va_runV (As := [.ref (adN 0)]) (rest := []) ⟨hx, hb, hml, hown, hts⟩ (m_X1_becomes l D g H.size adT adN T N L kd nu aa T1 hc1) (cwV 1 hts (lw_V q1227 q734 q735 q77 q736) rfl rfl rfl (by decide +kernel) ⟨Nat.le_of_ble_eq_true rfl, Nat.le_of_ble_eq_true rfl⟩) (b_preV (pp := 2) (q := 0) hW hp1 rfl vW_0 rfl) rfl rfl hl.1 rfl (lv_room (Nat.le_of_ble_eq_true rfl)) dX0_tried_8 ⟨Nat.le_of_ble_eq_true rfl, Nat.le_of_ble_eq_true rfl⟩) hW hp1 (fun _ _ H locs hW => ?_)
  have hW : bW D g A s H locs [vW g adT T1, vW g adN N, gW L kd nu aa, xW g adX (adN 0) (adT 0) iX X] := hW
  cases hf
  exact b_aret hx hb hr (Or.inl ⟨_, rfl⟩) hlk hE (b_perms hW (b_ord [3, 1, 0, 2] 4 rfl rfl rfl)) () rfl trivial (Or.inr ⟨_, rfl⟩) rfl dX0_tried_11
def f_X0_enough_L25 (X : BC) (L : List Nat) (kd : Nat → Nat) (nu : Nat → Int32) (aa : Nat → Int32) (x1 : Int32) (fu : Nat) (rec4 : (Int32 × BC) → Option (Int32 × BC × BC)) : Int32 × BC → Option (Int32 × BC × BC)
  | (v5, T6) =>
    (if (20 : Int32) < v5 then
     some ((-1), X, T6)
     else
     o_ck (inB x1 6) (o_lt (bI T6 3 (upd (T6.1 3) (ix x1) v5)) fun (T9 : BC) =>
     o_b1 (f_X1_night fu T9 L kd nu aa) fun (T10 : BC) =>
     o_b1 (f_X1_isFull T10 x1) fun (r11 : Int32) =>
     (if r11 = 0 then
     some (v5, X, T10)
     else
     o_lt (v5 + 1) fun (v13 : Int32) =>
     rec4 (v13, T10))))
def f_X0_enough (fu : Nat) (X : BC) (N : BC) (T : BC) (L : List Nat) (kd : Nat → Nat) (nu : Nat → Int32) (aa : Nat → Int32) (x1 : Int32) : Option (Int32 × BC × BC) :=
 o_b1 (f_X1_isInn N x1) fun (r1 : Int32) =>
 (if r1 = 0 then
 o_b2 (f_X0_no X (-2)) fun (r14 : Int32) (X15 : BC) =>
 some (r14, X15, T)
 else
 o_b1 (f_X0_tried X N T L kd nu aa) fun (T3 : BC) =>
 o_lp (f_X0_enough_L25 X L kd nu aa x1 fu) fu (1, T3))
abbrev rm_X0_enough : Room := { frames := 7, cells := 0, slots := 0, locals := 164 }
set_option maxHeartbeats 4000000 in
set_option maxRecDepth 100000 in
theorem m_X0_enough (l : Launch) (D : va_G) (g : Nat → ClassId) (sz : Nat) (adX : Nat → Nat) (iX : Option Nat) (adN : Nat → Nat) (adT : Nat → Nat) (fu : Nat) (X : BC) (N : BC) (T : BC) (L : List Nat) (kd : Nat → Nat) (nu : Nat → Int32) (aa : Nat → Int32) (x1 : Int32) (rO : Int32) (XO : BC) (TO : BC) (hf : f_X0_enough fu X N T L kd nu aa x1 = some (rO, XO, TO)) : bMet (S := Unit) l yX0_enough (ws_ yX0_enough cX0_enough 4 (some .int)) rm_X0_enough D g sz [.ref (adX 0), .int x1] [xW g adX (adN 0) (adT 0) iX X, vW g adN N, vW g adT T, gW L kd nu aa] (fun _ => True) (fun _ => some (.int rO)) (fun _ => [xW g adX (adN 0) (adT 0) iX XO, vW g adN N, vW g adT TO, gW L kd nu aa]) := by
  refine b_met (by decide) (Nat.le_of_ble_eq_true rfl) ?_
  intro p e s m args below meth c A Q ls hx hb hml hr hlk hown hname hts hE hl hW
  revert hW; generalize s.heap = H; intro hW
  have hl : lv_has ls 4 [(0, .ref (adX 0)), (1, .int x1)] := hl
  rw [f_X0_enough] at hf
  refine lv_aload_n hx hb dX0_enough_0 rfl (lv_at hl 0 rfl) ?_
  refine b_get hx hb hts in_X0 hown hW 0 0 0 0 rfl xW_0 rfl (by decide) ⟨rfl, rfl, rfl⟩ (hts _ q227) xW_g0 dX0_enough_1 ?_
  refine lv_iload_n hx hb dX0_enough_4 rfl (lv_at hl 1 rfl) ?_
  obtain ⟨r1, hc1, hf⟩ := o_b1s hf
  have hp1 : List.Perm [xW g adX (adN 0) (adT 0) iX X, vW g adN N, vW g adT T, gW L kd nu aa] ([vW g adN N] ++ [xW g adX (adN 0) (adT 0) iX X, vW g adT T, gW L kd nu aa]) := b_perm [1] [0, 2, 3] 4 rfl rfl rfl rfl
  refine b_call0 ⟨rfl, rfl⟩ (va_runV (As := [.int x1]) (rest := []) ⟨hx, hb, hml, hown, hts⟩ (m_X1_isInn l D g H.size adN N x1 r1 hc1) (cwV 1 hts (lw_V q672 q673 q674 q77 q675) rfl rfl rfl (by decide +kernel) ⟨Nat.le_of_ble_eq_true rfl, Nat.le_of_ble_eq_true rfl⟩) (b_preV (pp := 1) (q := 0) hW hp1 rfl vW_0 rfl) rfl rfl hl.1 rfl (lv_room (Nat.le_of_ble_eq_true rfl)) dX0_enough_5 ⟨Nat.le_of_ble_eq_true rfl, Nat.le_of_ble_eq_true rfl⟩) hW hp1 (fun _ _ H locs hW => ?_)
  have hW : bW D g A s H locs [vW g adN N, xW g adX (adN 0) (adT 0) iX X, vW g adT T, gW L kd nu aa] := hW
  refine lv_if_ne (tgt := 18) hx hb dX0_enough_8 (by decide) (fun c2 => ?_) (fun c2 => ?_)
  · have hf := o_f hf c2
    refine lv_aload_n hx hb dX0_enough_18 rfl (lv_at hl 0 rfl) ?_
    obtain ⟨T3, hc3, hf⟩ := o_b1s hf
    have hp3 : List.Perm [vW g adN N, xW g adX (adN 0) (adT 0) iX X, vW g adT T, gW L kd nu aa] ([xW g adX (adN 0) (adT 0) iX X, vW g adN N, vW g adT T, gW L kd nu aa] ++ []) := b_perm [1, 0, 2, 3] [] 4 rfl rfl rfl rfl
    refine b_call0 ⟨rfl, rfl⟩ (va_runV (As := []) (rest := []) ⟨hx, hb, hml, hown, hts⟩ (m_X0_tried l D g H.size adX iX adN adT X N T L kd nu aa T3 hc3) (cwV 0 hts (lw_V q1223 q1225 qs22 q76 q1226) rfl rfl rfl (by decide +kernel) ⟨Nat.le_of_ble_eq_true rfl, Nat.le_of_ble_eq_true rfl⟩) (b_preV (pp := 1) (q := 0) hW hp3 rfl xW_0 rfl) rfl rfl hl.1 rfl (lv_room (Nat.le_of_ble_eq_true rfl)) dX0_enough_19 ⟨Nat.le_of_ble_eq_true rfl, Nat.le_of_ble_eq_true rfl⟩) hW hp3 (fun _ _ H locs hW => ?_)
    have hW : bW D g A s H locs [xW g adX (adN 0) (adT 0) iX X, vW g adN N, vW g adT T3, gW L kd nu aa] := hW
    refine lv_astore_n (lv' := [(2, .ref (adT 0)), (0, .ref (adX 0)), (1, .int x1)]) hx hb dX0_enough_22 rfl hl (by decide) rfl (fun ls hl => ?_)
    refine lv_iconst (v := 1) hx hb dX0_enough_23 (by decide) ?_
    refine lv_istore_n (lv' := [(3, .int 1), (2, .ref (adT 0)), (0, .ref (adX 0)), (1, .int x1)]) hx hb dX0_enough_24 rfl hl (by decide) rfl (fun ls hl => ?_)
    obtain ⟨stp4, est4, hf⟩ := o_ln hf
    have L4 : ∀ (n : Nat) (v5 : Int32) (T6 : BC) (H : Heap) (locs : List Loc) (ls : Array Slot), bW D g A s H locs [xW g adX (adN 0) (adT 0) iX X, vW g adN N, vW g adT T6, gW L kd nu aa] → lv_has ls 4 [(3, .int v5), (2, .ref (adT 0)), (1, .int x1)] → o_lp stp4 n (v5, T6) = some (rO, XO, TO) → W p l e rm_X0_enough s m args below meth c H locs 0 0 Q (F0 m 25 ls []) := by
      intro n4
      induction n4 with
      | zero => intro v5 T6 H locs ls hW hl hf; exact (o_lz hf).elim
      | succ n4 ih4 =>
        intro v5 T6 H locs ls hW hl hf
        have hf := o_lu est4 hf
        rw [f_X0_enough_L25] at hf
        refine lv_iload_n hx hb dX0_enough_25 rfl (lv_at hl 0 rfl) ?_
        refine lv_bipush (v := 20) hx hb dX0_enough_26 (by decide) ?_
        refine lv_icmp_gt (tgt := 57) hx hb dX0_enough_28 (by decide) (fun c7 => ?_) (fun c7 => ?_)
        · have hf := o_t hf c7
          refine lv_iconst (v := (-1)) hx hb dX0_enough_57 (by decide) ?_
          cases hf
          exact b_iret hx hb hr hlk hE hW () rfl trivial rfl dX0_enough_58
        · have hf := o_f hf c7
          refine lv_aload_n hx hb dX0_enough_31 rfl (lv_at hl 1 rfl) ?_
          refine b_get hx hb hts in_X1 hown hW 2 0 1 2 rfl vW_0 rfl (by decide) ⟨rfl, rfl, rfl⟩ (hts _ q135) vW_g2 dX0_enough_32 ?_
          refine lv_iload_n hx hb dX0_enough_35 rfl (lv_at hl 2 rfl) ?_
          refine lv_iload_n hx hb dX0_enough_36 rfl (lv_at hl 0 rfl) ?_
          obtain ⟨h8, hf⟩ := o_cs hf
          obtain ⟨T9, eT9, hf⟩ := o_ls hf
          refine b_iast hx hb hW 2 3 rfl vW_3 (vW_s3 eT9) rfl h8 dX0_enough_37 (fun H locs hW => ?_)
          have hW : bW D g A s H locs [xW g adX (adN 0) (adT 0) iX X, vW g adN N, vW g adT T9, gW L kd nu aa] := hW
          refine lv_aload_n hx hb dX0_enough_38 rfl (lv_at hl 1 rfl) ?_
          obtain ⟨T10, hc10, hf⟩ := o_b1s hf
          have hp10 : List.Perm [xW g adX (adN 0) (adT 0) iX X, vW g adN N, vW g adT T9, gW L kd nu aa] ([vW g adT T9, gW L kd nu aa] ++ [xW g adX (adN 0) (adT 0) iX X, vW g adN N]) := b_perm [2, 3] [0, 1] 4 rfl rfl rfl rfl
          refine b_call0 ⟨rfl, rfl⟩ (va_runV (As := []) (rest := []) ⟨hx, hb, hml, hown, hts⟩ (m_X1_night l D g H.size adT fu T9 L kd nu aa T10 hc10) (cwV 0 hts (lw_V q1135 q1136 q1137 q77 q1138) rfl rfl rfl (by decide +kernel) ⟨Nat.le_of_ble_eq_true rfl, Nat.le_of_ble_eq_true rfl⟩) (b_preV (pp := 2) (q := 0) hW hp10 rfl vW_0 rfl) rfl rfl hl.1 rfl (lv_room (Nat.le_of_ble_eq_true rfl)) dX0_enough_39 ⟨Nat.le_of_ble_eq_true rfl, Nat.le_of_ble_eq_true rfl⟩) hW hp10 (fun _ _ H locs hW => ?_)
          have hW : bW D g A s H locs [vW g adT T10, gW L kd nu aa, xW g adX (adN 0) (adT 0) iX X, vW g adN N] := hW
          refine lv_iload_n hx hb dX0_enough_42 rfl (lv_at hl 2 rfl) ?_
          obtain ⟨r11, hc11, hf⟩ := o_b1s hf
          have hp11 : List.Perm [vW g adT T10, gW L kd nu aa, xW g adX (adN 0) (adT 0) iX X, vW g adN N] ([vW g adT T10] ++ [gW L kd nu aa, xW g adX (adN 0) (adT 0) iX X, vW g adN N]) := b_perm [0] [1, 2, 3] 4 rfl rfl rfl rfl
          refine b_call0 ⟨rfl, rfl⟩ (va_runV (As := [.int x1]) (rest := []) ⟨hx, hb, hml, hown, hts⟩ (m_X1_isFull l D g H.size adT T10 x1 r11 hc11) (cwV 1 hts (lw_V q1183 q1167 q1168 q77 q1169) rfl rfl rfl (by decide +kernel) ⟨Nat.le_of_ble_eq_true rfl, Nat.le_of_ble_eq_true rfl⟩) (b_preV (pp := 0) (q := 0) hW hp11 rfl vW_0 rfl) rfl rfl hl.1 rfl (lv_room (Nat.le_of_ble_eq_true rfl)) dX0_enough_43 ⟨Nat.le_of_ble_eq_true rfl, Nat.le_of_ble_eq_true rfl⟩) hW hp11 (fun _ _ H locs hW => ?_)
          have hW : bW D g A s H locs [vW g adT T10, gW L kd nu aa, xW g adX (adN 0) (adT 0) iX X, vW g adN N] := hW
          refine lv_if_ne (tgt := 51) hx hb dX0_enough_46 (by decide) (fun c12 => ?_) (fun c12 => ?_)
          · have hf := o_f hf c12
            obtain ⟨v13, ev13, hf⟩ := o_ls hf
            refine lv_iinc (v := v13) (lv' := [(3, .int v13), (2, .ref (adT 0)), (1, .int x1)]) hx hb dX0_enough_51 hl (k := 0) rfl ev13 (by decide) rfl (fun ls hl => ?_)
            refine lv_goto (tgt := 25) hx hb dX0_enough_54 (by decide) ?_
            exact ih4 _ _ _ _ _ (b_perms hW (b_ord [2, 3, 0, 1] 4 rfl rfl rfl)) (lv_sub hl [0, 1, 2] rfl) hf
          · have hf := o_t hf c12
            refine lv_iload_n hx hb dX0_enough_49 rfl (lv_at hl 0 rfl) ?_
            cases hf
            exact b_iret hx hb hr hlk hE (b_perms hW (b_ord [2, 3, 0, 1] 4 rfl rfl rfl)) () rfl trivial rfl dX0_enough_50
    exact L4 _ _ _ _ _ _ hW (lv_sub hl [0, 1, 3] rfl) hf
  · have hf := o_t hf c2
    refine lv_aload_n hx hb dX0_enough_11 rfl (lv_at hl 0 rfl) ?_
    refine lv_bipush (v := (-2)) hx hb dX0_enough_12 (by decide) ?_
    obtain ⟨r14, X15, hc15, hf⟩ := o_b2s hf
    have hp15 : List.Perm [vW g adN N, xW g adX (adN 0) (adT 0) iX X, vW g adT T, gW L kd nu aa] ([xW g adX (adN 0) (adT 0) iX X] ++ [vW g adN N, vW g adT T, gW L kd nu aa]) := b_perm [1] [0, 2, 3] 4 rfl rfl rfl rfl
    refine b_call0 ⟨rfl, rfl⟩ (va_runV (As := [.int (-2)]) (rest := []) ⟨hx, hb, hml, hown, hts⟩ (m_X0_no l D g H.size adX iX adN adT X (-2) r14 X15 hc15) (cwV 1 hts (lw_V q347 q349 qs2 q76 q350) rfl rfl rfl (by decide +kernel) ⟨Nat.le_of_ble_eq_true rfl, Nat.le_of_ble_eq_true rfl⟩) (b_preV (pp := 1) (q := 0) hW hp15 rfl xW_0 rfl) rfl rfl hl.1 rfl (lv_room (Nat.le_of_ble_eq_true rfl)) dX0_enough_14 ⟨Nat.le_of_ble_eq_true rfl, Nat.le_of_ble_eq_true rfl⟩) hW hp15 (fun _ _ H locs hW => ?_)
    have hW : bW D g A s H locs [xW g adX (adN 0) (adT 0) iX X15, vW g adN N, vW g adT T, gW L kd nu aa] := hW
    cases hf
    exact b_iret hx hb hr hlk hE hW () rfl trivial rfl dX0_enough_17
def f_X0_isWanted_L2 (X : BC) (N : BC) (T : BC) (L : List Nat) (kd : Nat → Nat) (nu : Nat → Int32) (aa : Nat → Int32) (x2 : Int32) (fu : Nat) (rec1 : Int32 → Option Int32) (v2 : Int32) : Option Int32 :=
 (if (N.1 0 1) ≤ v2 then
 some 0
 else
 o_ck (inB v2 6) (o_op (N.2.1 8 (ix v2)) none fun (a5 : Nat) => o_ck (gIn L kd a5) (o_lt ((if gBk (kd a5) = true then 1 else 0)) fun (v7 : Int32) =>
 (if v7 = 0 then
 o_lt (v2 + 1) fun (v9 : Int32) =>
 rec1 v9
 else
 o_op (N.2.1 8 (ix v2)) none fun (a10 : Nat) => o_ck (gIn L kd a10) (o_b1 (f_X0_allInns X N) fun (r12 : Int32) =>
 o_b1 (fg_first fu T L kd nu aa a10 r12) fun (r13 : Int32) =>
 (if r13 = x2 then
 some 1
 else
 o_lt (v2 + 1) fun (v15 : Int32) =>
 rec1 v15))))))
def f_X0_isWanted (fu : Nat) (X : BC) (N : BC) (T : BC) (L : List Nat) (kd : Nat → Nat) (nu : Nat → Int32) (aa : Nat → Int32) (x2 : Int32) : Option Int32 :=
 o_lp (f_X0_isWanted_L2 X N T L kd nu aa x2 fu) fu 0
abbrev rm_X0_isWanted : Room := { frames := 5, cells := 0, slots := 0, locals := 117 }
set_option maxHeartbeats 4000000 in
set_option maxRecDepth 100000 in
theorem m_X0_isWanted (l : Launch) (D : va_G) (g : Nat → ClassId) (sz : Nat) (adX : Nat → Nat) (iX : Option Nat) (adN : Nat → Nat) (adT : Nat → Nat) (fu : Nat) (X : BC) (N : BC) (T : BC) (L : List Nat) (kd : Nat → Nat) (nu : Nat → Int32) (aa : Nat → Int32) (x2 : Int32) (rO : Int32) (hf : f_X0_isWanted fu X N T L kd nu aa x2 = some rO) : bMet (S := Unit) l yX0_isWanted (ws_ yX0_isWanted cX0_isWanted 4 (some .boolean)) rm_X0_isWanted D g sz [.ref (adX 0), .ref (adT 0), .int x2] [xW g adX (adN 0) (adT 0) iX X, vW g adN N, vW g adT T, gW L kd nu aa] (fun _ => True) (fun _ => some (.int rO)) (fun _ => [xW g adX (adN 0) (adT 0) iX X, vW g adN N, vW g adT T, gW L kd nu aa]) := by
  refine b_met (by decide) (Nat.le_of_ble_eq_true rfl) ?_
  intro p e s m args below meth c A Q ls hx hb hml hr hlk hown hname hts hE hl hW
  revert hW; generalize s.heap = H; intro hW
  have hl : lv_has ls 4 [(0, .ref (adX 0)), (1, .ref (adT 0)), (2, .int x2)] := hl
  rw [f_X0_isWanted] at hf
  refine lv_iconst (v := 0) hx hb dX0_isWanted_0 (by decide) ?_
  refine lv_istore_n (lv' := [(3, .int 0), (0, .ref (adX 0)), (1, .ref (adT 0)), (2, .int x2)]) hx hb dX0_isWanted_1 rfl hl (by decide) rfl (fun ls hl => ?_)
  obtain ⟨stp1, est1, hf⟩ := o_ln hf
  have L1 : ∀ (n : Nat) (v2 : Int32) (H : Heap) (locs : List Loc) (ls : Array Slot), bW D g A s H locs [xW g adX (adN 0) (adT 0) iX X, vW g adN N, vW g adT T, gW L kd nu aa] → lv_has ls 4 [(3, .int v2), (0, .ref (adX 0)), (1, .ref (adT 0)), (2, .int x2)] → o_lp stp1 n v2 = some rO → W p l e rm_X0_isWanted s m args below meth c H locs 0 0 Q (F0 m 2 ls []) := by
    intro n1
    induction n1 with
    | zero => intro v2 H locs ls hW hl hf; exact (o_lz hf).elim
    | succ n1 ih1 =>
      intro v2 H locs ls hW hl hf
      have hf := o_lu est1 hf
      rw [f_X0_isWanted_L2] at hf
      refine lv_iload_n hx hb dX0_isWanted_2 rfl (lv_at hl 0 rfl) ?_
      refine lv_aload_n hx hb dX0_isWanted_3 rfl (lv_at hl 1 rfl) ?_
      refine b_get hx hb hts in_X0 hown hW 0 0 0 0 rfl xW_0 rfl (by decide) ⟨rfl, rfl, rfl⟩ (hts _ q227) xW_g0 dX0_isWanted_4 ?_
      refine b_get hx hb hts in_X1 hown hW 1 0 1 13 rfl vW_0 rfl (by decide) ⟨rfl, rfl, rfl⟩ (hts _ q170) vW_g13 dX0_isWanted_7 ?_
      refine lv_icmp_ge (tgt := 57) hx hb dX0_isWanted_10 (by decide) (fun c3 => ?_) (fun c3 => ?_)
      · have hf := o_t hf c3
        refine lv_iconst (v := 0) hx hb dX0_isWanted_57 (by decide) ?_
        cases hf
        exact b_zret hx hb hr hlk hE hW () rfl trivial rfl (by decide) dX0_isWanted_58
      · have hf := o_f hf c3
        refine lv_aload_n hx hb dX0_isWanted_13 rfl (lv_at hl 1 rfl) ?_
        refine b_get hx hb hts in_X0 hown hW 0 0 0 0 rfl xW_0 rfl (by decide) ⟨rfl, rfl, rfl⟩ (hts _ q227) xW_g0 dX0_isWanted_14 ?_
        refine b_get hx hb hts in_X1 hown hW 1 0 1 7 rfl vW_0 rfl (by decide) ⟨rfl, rfl, rfl⟩ (hts _ q154) vW_g7 dX0_isWanted_17 ?_
        refine lv_iload_n hx hb dX0_isWanted_20 rfl (lv_at hl 0 rfl) ?_
        obtain ⟨h4, hf⟩ := o_cs hf
        refine b_aald hx hb hW 1 8 5 rfl vW_8 rfl h4 dX0_isWanted_21 ?_
        refine b_split (fun hrf => by cases (o_opn hf hrf)) (fun a5 hrf => ?_)
        have hf := o_ops hf hrf
        obtain ⟨h6, hf⟩ := o_cs hf
        refine b_instG hx hb hown (hts _ q507) hW 3 rfl h6 gBk g_tbB dX0_isWanted_22 ?_
        obtain ⟨v7, ev7, hf⟩ := o_ls hf
        refine b_topi ev7 ?_
        refine lv_if_eq (tgt := 51) hx hb dX0_isWanted_25 (by decide) (fun c8 => ?_) (fun c8 => ?_)
        · have hf := o_t hf c8
          obtain ⟨v9, ev9, hf⟩ := o_ls hf
          refine lv_iinc (v := v9) (lv' := [(3, .int v9), (0, .ref (adX 0)), (1, .ref (adT 0)), (2, .int x2)]) hx hb dX0_isWanted_51 hl (k := 0) rfl ev9 (by decide) rfl (fun ls hl => ?_)
          refine lv_goto (tgt := 2) hx hb dX0_isWanted_54 (by decide) ?_
          exact ih1 _ _ _ _ hW (lv_sub hl [0, 1, 2, 3] rfl) hf
        · have hf := o_f hf c8
          refine lv_aload_n hx hb dX0_isWanted_28 rfl (lv_at hl 1 rfl) ?_
          refine b_get hx hb hts in_X0 hown hW 0 0 0 0 rfl xW_0 rfl (by decide) ⟨rfl, rfl, rfl⟩ (hts _ q227) xW_g0 dX0_isWanted_29 ?_
          refine b_get hx hb hts in_X1 hown hW 1 0 1 7 rfl vW_0 rfl (by decide) ⟨rfl, rfl, rfl⟩ (hts _ q154) vW_g7 dX0_isWanted_32 ?_
          refine lv_iload_n hx hb dX0_isWanted_35 rfl (lv_at hl 0 rfl) ?_
          refine b_aald hx hb hW 1 8 5 rfl vW_8 rfl h4 dX0_isWanted_36 ?_
          refine b_split (fun hrf => by cases (o_opn hf hrf)) (fun a10 hrf => ?_)
          have hf := o_ops hf hrf
          obtain ⟨h11, hf⟩ := o_cs hf
          refine lv_aload_n hx hb dX0_isWanted_37 rfl (lv_at hl 2 rfl) ?_
          refine lv_aload_n hx hb dX0_isWanted_38 rfl (lv_at hl 1 rfl) ?_
          obtain ⟨r12, hc12, hf⟩ := o_b1s hf
          have hp12 : List.Perm [xW g adX (adN 0) (adT 0) iX X, vW g adN N, vW g adT T, gW L kd nu aa] ([xW g adX (adN 0) (adT 0) iX X, vW g adN N] ++ [vW g adT T, gW L kd nu aa]) := b_perm [0, 1] [2, 3] 4 rfl rfl rfl rfl
          refine b_call0 ⟨rfl, rfl⟩ (va_runV (As := []) (rest := [.ref (adT 0), .ref a10]) ⟨hx, hb, hml, hown, hts⟩ (m_X0_allInns l D g H.size adX iX adN adT X N r12 hc12) (cwV 0 hts (lw_V q512 q514 qs6 q76 q515) rfl rfl rfl (by decide +kernel) ⟨Nat.le_of_ble_eq_true rfl, Nat.le_of_ble_eq_true rfl⟩) (b_preV (pp := 0) (q := 0) hW hp12 rfl xW_0 rfl) rfl rfl hl.1 rfl (lv_room (Nat.le_of_ble_eq_true rfl)) dX0_isWanted_39 ⟨Nat.le_of_ble_eq_true rfl, Nat.le_of_ble_eq_true rfl⟩) hW hp12 (fun _ _ H locs hW => ?_)
          have hW : bW D g A s H locs [xW g adX (adN 0) (adT 0) iX X, vW g adN N, vW g adT T, gW L kd nu aa] := hW
          obtain ⟨r13, hc13, hf⟩ := o_b1s hf
          have hp13 : List.Perm [xW g adX (adN 0) (adT 0) iX X, vW g adN N, vW g adT T, gW L kd nu aa] ([vW g adT T, gW L kd nu aa] ++ [xW g adX (adN 0) (adT 0) iX X, vW g adN N]) := b_perm [2, 3] [0, 1] 4 rfl rfl rfl rfl
          refine b_gv_first ⟨hx, hb, hml, hown, hts⟩ (va_Nw.use rfl (hW.2.2.2.2.2.2.2.2.2.2.2.1 _ (List.mem_of_getElem? (i := 0) rfl))) hW hp13 3 rfl h11 hc13 ⟨Nat.le_of_ble_eq_true rfl, Nat.le_of_ble_eq_true rfl⟩ hl.1 (Nat.le_of_ble_eq_true rfl) ⟨Nat.le_of_ble_eq_true rfl, Nat.le_of_ble_eq_true rfl⟩ dX0_isWanted_42 (fun H locs hW => ?_)
          have hW : bW D g A s H locs [vW g adT T, gW L kd nu aa, xW g adX (adN 0) (adT 0) iX X, vW g adN N] := hW
          refine lv_iload_n hx hb dX0_isWanted_45 rfl (lv_at hl 3 rfl) ?_
          refine lv_icmp_ne (tgt := 51) hx hb dX0_isWanted_46 (by decide) (fun c14 => ?_) (fun c14 => ?_)
          · have hf := o_f hf c14
            obtain ⟨v15, ev15, hf⟩ := o_ls hf
            refine lv_iinc (v := v15) (lv' := [(3, .int v15), (0, .ref (adX 0)), (1, .ref (adT 0)), (2, .int x2)]) hx hb dX0_isWanted_51 hl (k := 0) rfl ev15 (by decide) rfl (fun ls hl => ?_)
            refine lv_goto (tgt := 2) hx hb dX0_isWanted_54 (by decide) ?_
            exact ih1 _ _ _ _ (b_perms hW (b_ord [2, 3, 0, 1] 4 rfl rfl rfl)) (lv_sub hl [0, 1, 2, 3] rfl) hf
          · have hf := o_t hf c14
            refine lv_iconst (v := 1) hx hb dX0_isWanted_49 (by decide) ?_
            cases hf
            exact b_zret hx hb hr hlk hE (b_perms hW (b_ord [2, 3, 0, 1] 4 rfl rfl rfl)) () rfl trivial rfl (by decide) dX0_isWanted_50
  exact L1 _ _ _ _ _ hW (lv_sub hl [0, 1, 2, 3] rfl) hf
def f_X0_trust_L26 (X : BC) (N : BC) (L : List Nat) (kd : Nat → Nat) (nu : Nat → Int32) (aa : Nat → Int32) (x1 : Int32) (fu : Nat) (rec4 : (Int32 × BC) → Option (Int32 × BC × BC)) : Int32 × BC → Option (Int32 × BC × BC)
  | (v5, T6) =>
    (if v5 < 0 then
     some ((-1), X, T6)
     else
     o_lt (bI T6 0 (upd (T6.1 0) 2 v5)) fun (T8 : BC) =>
     o_b1 (f_X0_isWanted fu X N T8 L kd nu aa x1) fun (r9 : Int32) =>
     (if r9 = 0 then
     o_lt (v5 + (-1)) fun (v11 : Int32) =>
     rec4 (v11, T8)
     else
     some (v5, X, T8)))
def f_X0_trust (fu : Nat) (X : BC) (N : BC) (T : BC) (L : List Nat) (kd : Nat → Nat) (nu : Nat → Int32) (aa : Nat → Int32) (x1 : Int32) : Option (Int32 × BC × BC) :=
 o_b1 (f_X1_isInn N x1) fun (r1 : Int32) =>
 (if r1 = 0 then
 o_b2 (f_X0_no X (-2)) fun (r12 : Int32) (X13 : BC) =>
 some (r12, X13, T)
 else
 o_b1 (f_X0_tried X N T L kd nu aa) fun (T3 : BC) =>
 o_lp (f_X0_trust_L26 X N L kd nu aa x1 fu) fu (99, T3))
abbrev rm_X0_trust : Room := { frames := 6, cells := 0, slots := 0, locals := 140 }
set_option maxHeartbeats 4000000 in
set_option maxRecDepth 100000 in
theorem m_X0_trust (l : Launch) (D : va_G) (g : Nat → ClassId) (sz : Nat) (adX : Nat → Nat) (iX : Option Nat) (adN : Nat → Nat) (adT : Nat → Nat) (fu : Nat) (X : BC) (N : BC) (T : BC) (L : List Nat) (kd : Nat → Nat) (nu : Nat → Int32) (aa : Nat → Int32) (x1 : Int32) (rO : Int32) (XO : BC) (TO : BC) (hf : f_X0_trust fu X N T L kd nu aa x1 = some (rO, XO, TO)) : bMet (S := Unit) l yX0_trust (ws_ yX0_trust cX0_trust 4 (some .int)) rm_X0_trust D g sz [.ref (adX 0), .int x1] [xW g adX (adN 0) (adT 0) iX X, vW g adN N, vW g adT T, gW L kd nu aa] (fun _ => True) (fun _ => some (.int rO)) (fun _ => [xW g adX (adN 0) (adT 0) iX XO, vW g adN N, vW g adT TO, gW L kd nu aa]) := by
  refine b_met (by decide) (Nat.le_of_ble_eq_true rfl) ?_
  intro p e s m args below meth c A Q ls hx hb hml hr hlk hown hname hts hE hl hW
  revert hW; generalize s.heap = H; intro hW
  have hl : lv_has ls 4 [(0, .ref (adX 0)), (1, .int x1)] := hl
  rw [f_X0_trust] at hf
  refine lv_aload_n hx hb dX0_trust_0 rfl (lv_at hl 0 rfl) ?_
  refine b_get hx hb hts in_X0 hown hW 0 0 0 0 rfl xW_0 rfl (by decide) ⟨rfl, rfl, rfl⟩ (hts _ q227) xW_g0 dX0_trust_1 ?_
  refine lv_iload_n hx hb dX0_trust_4 rfl (lv_at hl 1 rfl) ?_
  obtain ⟨r1, hc1, hf⟩ := o_b1s hf
  have hp1 : List.Perm [xW g adX (adN 0) (adT 0) iX X, vW g adN N, vW g adT T, gW L kd nu aa] ([vW g adN N] ++ [xW g adX (adN 0) (adT 0) iX X, vW g adT T, gW L kd nu aa]) := b_perm [1] [0, 2, 3] 4 rfl rfl rfl rfl
  refine b_call0 ⟨rfl, rfl⟩ (va_runV (As := [.int x1]) (rest := []) ⟨hx, hb, hml, hown, hts⟩ (m_X1_isInn l D g H.size adN N x1 r1 hc1) (cwV 1 hts (lw_V q672 q673 q674 q77 q675) rfl rfl rfl (by decide +kernel) ⟨Nat.le_of_ble_eq_true rfl, Nat.le_of_ble_eq_true rfl⟩) (b_preV (pp := 1) (q := 0) hW hp1 rfl vW_0 rfl) rfl rfl hl.1 rfl (lv_room (Nat.le_of_ble_eq_true rfl)) dX0_trust_5 ⟨Nat.le_of_ble_eq_true rfl, Nat.le_of_ble_eq_true rfl⟩) hW hp1 (fun _ _ H locs hW => ?_)
  have hW : bW D g A s H locs [vW g adN N, xW g adX (adN 0) (adT 0) iX X, vW g adT T, gW L kd nu aa] := hW
  refine lv_if_ne (tgt := 18) hx hb dX0_trust_8 (by decide) (fun c2 => ?_) (fun c2 => ?_)
  · have hf := o_f hf c2
    refine lv_aload_n hx hb dX0_trust_18 rfl (lv_at hl 0 rfl) ?_
    obtain ⟨T3, hc3, hf⟩ := o_b1s hf
    have hp3 : List.Perm [vW g adN N, xW g adX (adN 0) (adT 0) iX X, vW g adT T, gW L kd nu aa] ([xW g adX (adN 0) (adT 0) iX X, vW g adN N, vW g adT T, gW L kd nu aa] ++ []) := b_perm [1, 0, 2, 3] [] 4 rfl rfl rfl rfl
    refine b_call0 ⟨rfl, rfl⟩ (va_runV (As := []) (rest := []) ⟨hx, hb, hml, hown, hts⟩ (m_X0_tried l D g H.size adX iX adN adT X N T L kd nu aa T3 hc3) (cwV 0 hts (lw_V q1223 q1225 qs22 q76 q1226) rfl rfl rfl (by decide +kernel) ⟨Nat.le_of_ble_eq_true rfl, Nat.le_of_ble_eq_true rfl⟩) (b_preV (pp := 1) (q := 0) hW hp3 rfl xW_0 rfl) rfl rfl hl.1 rfl (lv_room (Nat.le_of_ble_eq_true rfl)) dX0_trust_19 ⟨Nat.le_of_ble_eq_true rfl, Nat.le_of_ble_eq_true rfl⟩) hW hp3 (fun _ _ H locs hW => ?_)
    have hW : bW D g A s H locs [xW g adX (adN 0) (adT 0) iX X, vW g adN N, vW g adT T3, gW L kd nu aa] := hW
    refine lv_astore_n (lv' := [(2, .ref (adT 0)), (0, .ref (adX 0)), (1, .int x1)]) hx hb dX0_trust_22 rfl hl (by decide) rfl (fun ls hl => ?_)
    refine lv_bipush (v := 99) hx hb dX0_trust_23 (by decide) ?_
    refine lv_istore_n (lv' := [(3, .int 99), (2, .ref (adT 0)), (0, .ref (adX 0)), (1, .int x1)]) hx hb dX0_trust_25 rfl hl (by decide) rfl (fun ls hl => ?_)
    obtain ⟨stp4, est4, hf⟩ := o_ln hf
    have L4 : ∀ (n : Nat) (v5 : Int32) (T6 : BC) (H : Heap) (locs : List Loc) (ls : Array Slot), bW D g A s H locs [xW g adX (adN 0) (adT 0) iX X, vW g adN N, vW g adT T6, gW L kd nu aa] → lv_has ls 4 [(3, .int v5), (2, .ref (adT 0)), (0, .ref (adX 0)), (1, .int x1)] → o_lp stp4 n (v5, T6) = some (rO, XO, TO) → W p l e rm_X0_trust s m args below meth c H locs 0 0 Q (F0 m 26 ls []) := by
      intro n4
      induction n4 with
      | zero => intro v5 T6 H locs ls hW hl hf; exact (o_lz hf).elim
      | succ n4 ih4 =>
        intro v5 T6 H locs ls hW hl hf
        have hf := o_lu est4 hf
        rw [f_X0_trust_L26] at hf
        refine lv_iload_n hx hb dX0_trust_26 rfl (lv_at hl 0 rfl) ?_
        refine lv_if_lt (tgt := 52) hx hb dX0_trust_27 (by decide) (fun c7 => ?_) (fun c7 => ?_)
        · have hf := o_t hf c7
          refine lv_iconst (v := (-1)) hx hb dX0_trust_52 (by decide) ?_
          cases hf
          exact b_iret hx hb hr hlk hE hW () rfl trivial rfl dX0_trust_53
        · have hf := o_f hf c7
          refine lv_aload_n hx hb dX0_trust_30 rfl (lv_at hl 1 rfl) ?_
          refine lv_iload_n hx hb dX0_trust_31 rfl (lv_at hl 0 rfl) ?_
          obtain ⟨T8, eT8, hf⟩ := o_ls hf
          refine b_put hx hb hts in_X1 tyX1 tyX1_ok nmX1 hown hW 2 0 1 14 rfl vW_0 (vW_p14 eT8) rfl rfl (by decide) ⟨rfl, rfl, rfl⟩ (hts _ q174) rfl (ty := .int) rfl rfl rfl (by rw [vW_l]; decide) dX0_trust_32 (fun H locs hW => ?_)
          have hW : bW D g A s H locs [xW g adX (adN 0) (adT 0) iX X, vW g adN N, vW g adT T8, gW L kd nu aa] := hW
          refine lv_aload_n hx hb dX0_trust_35 rfl (lv_at hl 2 rfl) ?_
          refine lv_aload_n hx hb dX0_trust_36 rfl (lv_at hl 1 rfl) ?_
          refine lv_iload_n hx hb dX0_trust_37 rfl (lv_at hl 3 rfl) ?_
          obtain ⟨r9, hc9, hf⟩ := o_b1s hf
          have hp9 : List.Perm [xW g adX (adN 0) (adT 0) iX X, vW g adN N, vW g adT T8, gW L kd nu aa] ([xW g adX (adN 0) (adT 0) iX X, vW g adN N, vW g adT T8, gW L kd nu aa] ++ []) := b_perm [0, 1, 2, 3] [] 4 rfl rfl rfl rfl
          refine b_call0 ⟨rfl, rfl⟩ (va_runV (As := [.ref (adT 0), .int x1]) (rest := []) ⟨hx, hb, hml, hown, hts⟩ (m_X0_isWanted l D g H.size adX iX adN adT fu X N T8 L kd nu aa x1 r9 hc9) (cwV 2 hts (lw_V q1236 q1238 qs23 q76 q1239) rfl rfl rfl (by decide +kernel) ⟨Nat.le_of_ble_eq_true rfl, Nat.le_of_ble_eq_true rfl⟩) (b_preV (pp := 0) (q := 0) hW hp9 rfl xW_0 rfl) rfl rfl hl.1 rfl (lv_room (Nat.le_of_ble_eq_true rfl)) dX0_trust_38 ⟨Nat.le_of_ble_eq_true rfl, Nat.le_of_ble_eq_true rfl⟩) hW hp9 (fun _ _ H locs hW => ?_)
          have hW : bW D g A s H locs [xW g adX (adN 0) (adT 0) iX X, vW g adN N, vW g adT T8, gW L kd nu aa] := hW
          refine lv_if_eq (tgt := 46) hx hb dX0_trust_41 (by decide) (fun c10 => ?_) (fun c10 => ?_)
          · have hf := o_t hf c10
            obtain ⟨v11, ev11, hf⟩ := o_ls hf
            refine lv_iinc (v := v11) (lv' := [(3, .int v11), (2, .ref (adT 0)), (0, .ref (adX 0)), (1, .int x1)]) hx hb dX0_trust_46 hl (k := 0) rfl ev11 (by decide) rfl (fun ls hl => ?_)
            refine lv_goto (tgt := 26) hx hb dX0_trust_49 (by decide) ?_
            exact ih4 _ _ _ _ _ hW (lv_sub hl [0, 1, 2, 3] rfl) hf
          · have hf := o_f hf c10
            refine lv_iload_n hx hb dX0_trust_44 rfl (lv_at hl 0 rfl) ?_
            cases hf
            exact b_iret hx hb hr hlk hE hW () rfl trivial rfl dX0_trust_45
    exact L4 _ _ _ _ _ _ hW (lv_sub hl [0, 1, 2, 3] rfl) hf
  · have hf := o_t hf c2
    refine lv_aload_n hx hb dX0_trust_11 rfl (lv_at hl 0 rfl) ?_
    refine lv_bipush (v := (-2)) hx hb dX0_trust_12 (by decide) ?_
    obtain ⟨r12, X13, hc13, hf⟩ := o_b2s hf
    have hp13 : List.Perm [vW g adN N, xW g adX (adN 0) (adT 0) iX X, vW g adT T, gW L kd nu aa] ([xW g adX (adN 0) (adT 0) iX X] ++ [vW g adN N, vW g adT T, gW L kd nu aa]) := b_perm [1] [0, 2, 3] 4 rfl rfl rfl rfl
    refine b_call0 ⟨rfl, rfl⟩ (va_runV (As := [.int (-2)]) (rest := []) ⟨hx, hb, hml, hown, hts⟩ (m_X0_no l D g H.size adX iX adN adT X (-2) r12 X13 hc13) (cwV 1 hts (lw_V q347 q349 qs2 q76 q350) rfl rfl rfl (by decide +kernel) ⟨Nat.le_of_ble_eq_true rfl, Nat.le_of_ble_eq_true rfl⟩) (b_preV (pp := 1) (q := 0) hW hp13 rfl xW_0 rfl) rfl rfl hl.1 rfl (lv_room (Nat.le_of_ble_eq_true rfl)) dX0_trust_14 ⟨Nat.le_of_ble_eq_true rfl, Nat.le_of_ble_eq_true rfl⟩) hW hp13 (fun _ _ H locs hW => ?_)
    have hW : bW D g A s H locs [xW g adX (adN 0) (adT 0) iX X13, vW g adN N, vW g adT T, gW L kd nu aa] := hW
    cases hf
    exact b_iret hx hb hr hlk hE hW () rfl trivial rfl dX0_trust_17
def f_X0_share (fu : Nat) (X : BC) (N : BC) (T : BC) (L : List Nat) (kd : Nat → Nat) (nu : Nat → Int32) (aa : Nat → Int32) (x1 : Int32) : Option (Int32 × BC × BC) :=
 o_b1 (f_X0_isGoer X N x1) fun (r1 : Int32) =>
 (if r1 = 0 then
 o_b2 (f_X0_no X (-2)) fun (r12 : Int32) (X13 : BC) =>
 some (r12, X13, N)
 else
 (if (N.1 0 0) = 0 then
 o_b2 (f_X0_no X (-5)) fun (r10 : Int32) (X11 : BC) =>
 some (r10, X11, N)
 else
 o_b2 (f_X0_truest fu X N T L kd nu aa) fun (r4 : Int32) (X5 : BC) =>
 o_b1 (f_X1_night fu N L kd nu aa) fun (N6 : BC) =>
 o_ck (inB x1 6) (o_ck (inB r4 6) (o_ck (!decide ((N6.1 9 (ix x1)) = 0)) (some ((100 * (N6.1 (11 + ix x1) (ix r4))) / (N6.1 9 (ix x1)), X5, N6))))))
abbrev rm_X0_share : Room := { frames := 7, cells := 0, slots := 0, locals := 164 }
set_option maxHeartbeats 4000000 in
set_option maxRecDepth 100000 in
theorem m_X0_share (l : Launch) (D : va_G) (g : Nat → ClassId) (sz : Nat) (adX : Nat → Nat) (iX : Option Nat) (adN : Nat → Nat) (adT : Nat → Nat) (fu : Nat) (X : BC) (N : BC) (T : BC) (L : List Nat) (kd : Nat → Nat) (nu : Nat → Int32) (aa : Nat → Int32) (x1 : Int32) (rO : Int32) (XO : BC) (NO : BC) (hf : f_X0_share fu X N T L kd nu aa x1 = some (rO, XO, NO)) : bMet (S := Unit) l yX0_share (ws_ yX0_share cX0_share 3 (some .int)) rm_X0_share D g sz [.ref (adX 0), .int x1] [xW g adX (adN 0) (adT 0) iX X, vW g adN N, vW g adT T, gW L kd nu aa] (fun _ => True) (fun _ => some (.int rO)) (fun _ => [xW g adX (adN 0) (adT 0) iX XO, vW g adN NO, vW g adT T, gW L kd nu aa]) := by
  refine b_met (by decide) (Nat.le_of_ble_eq_true rfl) ?_
  intro p e s m args below meth c A Q ls hx hb hml hr hlk hown hname hts hE hl hW
  revert hW; generalize s.heap = H; intro hW
  have hl : lv_has ls 3 [(0, .ref (adX 0)), (1, .int x1)] := hl
  rw [f_X0_share] at hf
  refine lv_aload_n hx hb dX0_share_0 rfl (lv_at hl 0 rfl) ?_
  refine lv_iload_n hx hb dX0_share_1 rfl (lv_at hl 1 rfl) ?_
  obtain ⟨r1, hc1, hf⟩ := o_b1s hf
  have hp1 : List.Perm [xW g adX (adN 0) (adT 0) iX X, vW g adN N, vW g adT T, gW L kd nu aa] ([xW g adX (adN 0) (adT 0) iX X, vW g adN N] ++ [vW g adT T, gW L kd nu aa]) := b_perm [0, 1] [2, 3] 4 rfl rfl rfl rfl
  refine b_call0 ⟨rfl, rfl⟩ (va_runV (As := [.int x1]) (rest := []) ⟨hx, hb, hml, hown, hts⟩ (m_X0_isGoer l D g H.size adX iX adN adT X N x1 r1 hc1) (cwV 1 hts (lw_V q485 q487 qs4 q76 q488) rfl rfl rfl (by decide +kernel) ⟨Nat.le_of_ble_eq_true rfl, Nat.le_of_ble_eq_true rfl⟩) (b_preV (pp := 0) (q := 0) hW hp1 rfl xW_0 rfl) rfl rfl hl.1 rfl (lv_room (Nat.le_of_ble_eq_true rfl)) dX0_share_2 ⟨Nat.le_of_ble_eq_true rfl, Nat.le_of_ble_eq_true rfl⟩) hW hp1 (fun _ _ H locs hW => ?_)
  have hW : bW D g A s H locs [xW g adX (adN 0) (adT 0) iX X, vW g adN N, vW g adT T, gW L kd nu aa] := hW
  refine lv_if_ne (tgt := 15) hx hb dX0_share_5 (by decide) (fun c2 => ?_) (fun c2 => ?_)
  · have hf := o_f hf c2
    refine lv_aload_n hx hb dX0_share_15 rfl (lv_at hl 0 rfl) ?_
    refine b_get hx hb hts in_X0 hown hW 0 0 0 0 rfl xW_0 rfl (by decide) ⟨rfl, rfl, rfl⟩ (hts _ q227) xW_g0 dX0_share_16 ?_
    refine b_get hx hb hts in_X1 hown hW 1 0 1 12 rfl vW_0 rfl (by decide) ⟨rfl, rfl, rfl⟩ (hts _ q167) vW_g12 dX0_share_19 ?_
    refine lv_if_ne (tgt := 32) hx hb dX0_share_22 (by decide) (fun c3 => ?_) (fun c3 => ?_)
    · have hf := o_f hf c3
      refine lv_aload_n hx hb dX0_share_32 rfl (lv_at hl 0 rfl) ?_
      obtain ⟨r4, X5, hc5, hf⟩ := o_b2s hf
      have hp5 : List.Perm [xW g adX (adN 0) (adT 0) iX X, vW g adN N, vW g adT T, gW L kd nu aa] ([xW g adX (adN 0) (adT 0) iX X, vW g adN N, vW g adT T, gW L kd nu aa] ++ []) := b_perm [0, 1, 2, 3] [] 4 rfl rfl rfl rfl
      refine b_call0 ⟨rfl, rfl⟩ (va_runV (As := []) (rest := []) ⟨hx, hb, hml, hown, hts⟩ (m_X0_truest l D g H.size adX iX adN adT fu X N T L kd nu aa r4 X5 hc5) (cwV 0 hts (lw_V q1244 q1209 q1210 q76 q1211) rfl rfl rfl (by decide +kernel) ⟨Nat.le_of_ble_eq_true rfl, Nat.le_of_ble_eq_true rfl⟩) (b_preV (pp := 0) (q := 0) hW hp5 rfl xW_0 rfl) rfl rfl hl.1 rfl (lv_room (Nat.le_of_ble_eq_true rfl)) dX0_share_33 ⟨Nat.le_of_ble_eq_true rfl, Nat.le_of_ble_eq_true rfl⟩) hW hp5 (fun _ _ H locs hW => ?_)
      have hW : bW D g A s H locs [xW g adX (adN 0) (adT 0) iX X5, vW g adN N, vW g adT T, gW L kd nu aa] := hW
      refine lv_istore_n (lv' := [(2, .int r4), (0, .ref (adX 0)), (1, .int x1)]) hx hb dX0_share_36 rfl hl (by decide) rfl (fun ls hl => ?_)
      refine lv_bipush (v := 100) hx hb dX0_share_37 (by decide) ?_
      refine lv_aload_n hx hb dX0_share_39 rfl (lv_at hl 1 rfl) ?_
      refine b_get hx hb hts in_X0 hown hW 0 0 0 0 rfl xW_0 rfl (by decide) ⟨rfl, rfl, rfl⟩ (hts _ q227) xW_g0 dX0_share_40 ?_
      obtain ⟨N6, hc6, hf⟩ := o_b1s hf
      have hp6 : List.Perm [xW g adX (adN 0) (adT 0) iX X5, vW g adN N, vW g adT T, gW L kd nu aa] ([vW g adN N, gW L kd nu aa] ++ [xW g adX (adN 0) (adT 0) iX X5, vW g adT T]) := b_perm [1, 3] [0, 2] 4 rfl rfl rfl rfl
      refine b_call0 ⟨rfl, rfl⟩ (va_runV (As := []) (rest := [.int 100]) ⟨hx, hb, hml, hown, hts⟩ (m_X1_night l D g H.size adN fu N L kd nu aa N6 hc6) (cwV 0 hts (lw_V q1135 q1136 q1137 q77 q1138) rfl rfl rfl (by decide +kernel) ⟨Nat.le_of_ble_eq_true rfl, Nat.le_of_ble_eq_true rfl⟩) (b_preV (pp := 1) (q := 0) hW hp6 rfl vW_0 rfl) rfl rfl hl.1 rfl (lv_room (Nat.le_of_ble_eq_true rfl)) dX0_share_43 ⟨Nat.le_of_ble_eq_true rfl, Nat.le_of_ble_eq_true rfl⟩) hW hp6 (fun _ _ H locs hW => ?_)
      have hW : bW D g A s H locs [vW g adN N6, gW L kd nu aa, xW g adX (adN 0) (adT 0) iX X5, vW g adT T] := hW
      refine b_get hx hb hts in_X1 hown hW 0 0 1 9 rfl vW_0 rfl (by decide) ⟨rfl, rfl, rfl⟩ (hts _ q158) vW_g9 dX0_share_46 ?_
      refine lv_iload_n hx hb dX0_share_49 rfl (lv_at hl 2 rfl) ?_
      obtain ⟨h7, hf⟩ := o_cs hf
      refine b_agrI hx hb hW 0 10 rfl vW_10 h7 dX0_share_50 ?_
      refine lv_iload_n hx hb dX0_share_51 rfl (lv_at hl 0 rfl) ?_
      obtain ⟨h8, hf⟩ := o_cs hf
      refine b_iald hx hb hW 0 (11 + ix x1) rfl (vW_r11 (inB_lt h7)) h8 dX0_share_52 ?_
      refine lv_imul hx hb dX0_share_53 ?_
      refine lv_aload_n hx hb dX0_share_54 rfl (lv_at hl 1 rfl) ?_
      refine b_get hx hb hts in_X0 hown hW 2 0 0 0 rfl xW_0 rfl (by decide) ⟨rfl, rfl, rfl⟩ (hts _ q227) xW_g0 dX0_share_55 ?_
      refine b_get hx hb hts in_X1 hown hW 0 0 1 8 rfl vW_0 rfl (by decide) ⟨rfl, rfl, rfl⟩ (hts _ q156) vW_g8 dX0_share_58 ?_
      refine lv_iload_n hx hb dX0_share_61 rfl (lv_at hl 2 rfl) ?_
      refine b_iald hx hb hW 0 9 rfl vW_9 h7 dX0_share_62 ?_
      obtain ⟨h9, hf⟩ := o_cs hf
      refine lv_idiv hx hb dX0_share_63 (o_nz h9) ?_
      cases hf
      exact b_iret hx hb hr hlk hE (b_perms hW (b_ord [2, 0, 3, 1] 4 rfl rfl rfl)) () rfl trivial rfl dX0_share_64
    · have hf := o_t hf c3
      refine lv_aload_n hx hb dX0_share_25 rfl (lv_at hl 0 rfl) ?_
      refine lv_bipush (v := (-5)) hx hb dX0_share_26 (by decide) ?_
      obtain ⟨r10, X11, hc11, hf⟩ := o_b2s hf
      have hp11 : List.Perm [xW g adX (adN 0) (adT 0) iX X, vW g adN N, vW g adT T, gW L kd nu aa] ([xW g adX (adN 0) (adT 0) iX X] ++ [vW g adN N, vW g adT T, gW L kd nu aa]) := b_perm [0] [1, 2, 3] 4 rfl rfl rfl rfl
      refine b_call0 ⟨rfl, rfl⟩ (va_runV (As := [.int (-5)]) (rest := []) ⟨hx, hb, hml, hown, hts⟩ (m_X0_no l D g H.size adX iX adN adT X (-5) r10 X11 hc11) (cwV 1 hts (lw_V q347 q349 qs2 q76 q350) rfl rfl rfl (by decide +kernel) ⟨Nat.le_of_ble_eq_true rfl, Nat.le_of_ble_eq_true rfl⟩) (b_preV (pp := 0) (q := 0) hW hp11 rfl xW_0 rfl) rfl rfl hl.1 rfl (lv_room (Nat.le_of_ble_eq_true rfl)) dX0_share_28 ⟨Nat.le_of_ble_eq_true rfl, Nat.le_of_ble_eq_true rfl⟩) hW hp11 (fun _ _ H locs hW => ?_)
      have hW : bW D g A s H locs [xW g adX (adN 0) (adT 0) iX X11, vW g adN N, vW g adT T, gW L kd nu aa] := hW
      cases hf
      exact b_iret hx hb hr hlk hE hW () rfl trivial rfl dX0_share_31
  · have hf := o_t hf c2
    refine lv_aload_n hx hb dX0_share_8 rfl (lv_at hl 0 rfl) ?_
    refine lv_bipush (v := (-2)) hx hb dX0_share_9 (by decide) ?_
    obtain ⟨r12, X13, hc13, hf⟩ := o_b2s hf
    have hp13 : List.Perm [xW g adX (adN 0) (adT 0) iX X, vW g adN N, vW g adT T, gW L kd nu aa] ([xW g adX (adN 0) (adT 0) iX X] ++ [vW g adN N, vW g adT T, gW L kd nu aa]) := b_perm [0] [1, 2, 3] 4 rfl rfl rfl rfl
    refine b_call0 ⟨rfl, rfl⟩ (va_runV (As := [.int (-2)]) (rest := []) ⟨hx, hb, hml, hown, hts⟩ (m_X0_no l D g H.size adX iX adN adT X (-2) r12 X13 hc13) (cwV 1 hts (lw_V q347 q349 qs2 q76 q350) rfl rfl rfl (by decide +kernel) ⟨Nat.le_of_ble_eq_true rfl, Nat.le_of_ble_eq_true rfl⟩) (b_preV (pp := 0) (q := 0) hW hp13 rfl xW_0 rfl) rfl rfl hl.1 rfl (lv_room (Nat.le_of_ble_eq_true rfl)) dX0_share_11 ⟨Nat.le_of_ble_eq_true rfl, Nat.le_of_ble_eq_true rfl⟩) hW hp13 (fun _ _ H locs hW => ?_)
    have hW : bW D g A s H locs [xW g adX (adN 0) (adT 0) iX X13, vW g adN N, vW g adT T, gW L kd nu aa] := hW
    cases hf
    exact b_iret hx hb hr hlk hE hW () rfl trivial rfl dX0_share_14
def f_X0_nine (X : BC) (N : BC) (x1 : Int32) (x2 : Int32) (x3 : Int32) : Option (Int32 × BC) :=
 o_b1 (f_X1_isInn N x1) fun (r1 : Int32) =>
 (if r1 = 0 then
 o_b2 (f_X0_noLow X (-2)) fun (r3 : Int32) (X4 : BC) =>
 some (r3, X4)
 else
 o_b1 (f_X0_isIn x2 1 40) fun (r5 : Int32) =>
 (if r5 = 0 then
 o_b2 (f_X0_noLow X (-2)) fun (r7 : Int32) (X8 : BC) =>
 some (r7, X8)
 else
 o_b1 (f_X0_isIn x3 0 100) fun (r9 : Int32) =>
 (if r9 = 0 then
 o_b2 (f_X0_noLow X (-2)) fun (r13 : Int32) (X14 : BC) =>
 some (r13, X14)
 else
 o_ck (inB x1 6) (o_ck (!decide (((N.1 6 (ix x1)) + x2) = 0)) (some ((((N.1 7 (ix x1)) + (x2 * x3)) / ((N.1 6 (ix x1)) + x2)) - (N.1 1 (ix x1)), X))))))
abbrev rm_X0_nine : Room := { frames := 2, cells := 0, slots := 0, locals := 43 }
set_option maxHeartbeats 4000000 in
set_option maxRecDepth 100000 in
theorem m_X0_nine (l : Launch) (D : va_G) (g : Nat → ClassId) (sz : Nat) (adX : Nat → Nat) (iX : Option Nat) (adN : Nat → Nat) (adT : Nat → Nat) (X : BC) (N : BC) (x1 : Int32) (x2 : Int32) (x3 : Int32) (rO : Int32) (XO : BC) (hf : f_X0_nine X N x1 x2 x3 = some (rO, XO)) : bMet (S := Unit) l yX0_nine (ws_ yX0_nine cX0_nine 4 (some .int)) rm_X0_nine D g sz [.ref (adX 0), .int x1, .int x2, .int x3] [xW g adX (adN 0) (adT 0) iX X, vW g adN N] (fun _ => True) (fun _ => some (.int rO)) (fun _ => [xW g adX (adN 0) (adT 0) iX XO, vW g adN N]) := by
  refine b_met (by decide) (Nat.le_of_ble_eq_true rfl) ?_
  intro p e s m args below meth c A Q ls hx hb hml hr hlk hown hname hts hE hl hW
  revert hW; generalize s.heap = H; intro hW
  have hl : lv_has ls 4 [(0, .ref (adX 0)), (1, .int x1), (2, .int x2), (3, .int x3)] := hl
  rw [f_X0_nine] at hf
  refine lv_aload_n hx hb dX0_nine_0 rfl (lv_at hl 0 rfl) ?_
  refine b_get hx hb hts in_X0 hown hW 0 0 0 0 rfl xW_0 rfl (by decide) ⟨rfl, rfl, rfl⟩ (hts _ q227) xW_g0 dX0_nine_1 ?_
  refine lv_iload_n hx hb dX0_nine_4 rfl (lv_at hl 1 rfl) ?_
  obtain ⟨r1, hc1, hf⟩ := o_b1s hf
  have hp1 : List.Perm [xW g adX (adN 0) (adT 0) iX X, vW g adN N] ([vW g adN N] ++ [xW g adX (adN 0) (adT 0) iX X]) := b_perm [1] [0] 2 rfl rfl rfl rfl
  refine b_call0 ⟨rfl, rfl⟩ (va_runV (As := [.int x1]) (rest := []) ⟨hx, hb, hml, hown, hts⟩ (m_X1_isInn l D g H.size adN N x1 r1 hc1) (cwV 1 hts (lw_V q672 q673 q674 q77 q675) rfl rfl rfl (by decide +kernel) ⟨Nat.le_of_ble_eq_true rfl, Nat.le_of_ble_eq_true rfl⟩) (b_preV (pp := 1) (q := 0) hW hp1 rfl vW_0 rfl) rfl rfl hl.1 rfl (lv_room (Nat.le_of_ble_eq_true rfl)) dX0_nine_5 ⟨Nat.le_of_ble_eq_true rfl, Nat.le_of_ble_eq_true rfl⟩) hW hp1 (fun _ _ H locs hW => ?_)
  have hW : bW D g A s H locs [vW g adN N, xW g adX (adN 0) (adT 0) iX X] := hW
  refine lv_if_eq (tgt := 31) hx hb dX0_nine_8 (by decide) (fun c2 => ?_) (fun c2 => ?_)
  · have hf := o_t hf c2
    refine lv_aload_n hx hb dX0_nine_31 rfl (lv_at hl 0 rfl) ?_
    refine lv_bipush (v := (-2)) hx hb dX0_nine_32 (by decide) ?_
    obtain ⟨r3, X4, hc4, hf⟩ := o_b2s hf
    have hp4 : List.Perm [vW g adN N, xW g adX (adN 0) (adT 0) iX X] ([xW g adX (adN 0) (adT 0) iX X] ++ [vW g adN N]) := b_perm [1] [0] 2 rfl rfl rfl rfl
    refine b_call0 ⟨rfl, rfl⟩ (va_runV (As := [.int (-2)]) (rest := []) ⟨hx, hb, hml, hown, hts⟩ (m_X0_noLow l D g H.size adX iX adN adT X (-2) r3 X4 hc4) (cwV 1 hts (lw_V q1126 q1128 qs18 q76 q1129) rfl rfl rfl (by decide +kernel) ⟨Nat.le_of_ble_eq_true rfl, Nat.le_of_ble_eq_true rfl⟩) (b_preV (pp := 1) (q := 0) hW hp4 rfl xW_0 rfl) rfl rfl hl.1 rfl (lv_room (Nat.le_of_ble_eq_true rfl)) dX0_nine_34 ⟨Nat.le_of_ble_eq_true rfl, Nat.le_of_ble_eq_true rfl⟩) hW hp4 (fun _ _ H locs hW => ?_)
    have hW : bW D g A s H locs [xW g adX (adN 0) (adT 0) iX X4, vW g adN N] := hW
    cases hf
    exact b_iret hx hb hr hlk hE hW () rfl trivial rfl dX0_nine_37
  · have hf := o_f hf c2
    refine lv_iload_n hx hb dX0_nine_11 rfl (lv_at hl 2 rfl) ?_
    refine lv_iconst (v := 1) hx hb dX0_nine_12 (by decide) ?_
    refine lv_bipush (v := 40) hx hb dX0_nine_13 (by decide) ?_
    obtain ⟨r5, hc5, hf⟩ := o_b1s hf
    have hp5 : List.Perm [vW g adN N, xW g adX (adN 0) (adT 0) iX X] ([] ++ [vW g adN N, xW g adX (adN 0) (adT 0) iX X]) := b_perm [] [0, 1] 2 rfl rfl rfl rfl
    refine b_call0 ⟨rfl, rfl⟩ (va_runS (As := [.int x2, .int 1, .int 40]) (rest := []) ⟨hx, hb, hml, hown, hts⟩ (m_X0_isIn l D g H.size x2 1 40 r5 hc5) (va_cwS 3 hts (lw_S q344 q345 q76 q346) rfl rfl rfl (by decide +kernel) ⟨Nat.le_of_ble_eq_true rfl, Nat.le_of_ble_eq_true rfl⟩) (b_preS hW hp5) rfl rfl hl.1 rfl (lv_room (Nat.le_of_ble_eq_true rfl)) dX0_nine_15 ⟨Nat.le_of_ble_eq_true rfl, Nat.le_of_ble_eq_true rfl⟩) hW hp5 (fun _ _ H locs hW => ?_)
    have hW : bW D g A s H locs [vW g adN N, xW g adX (adN 0) (adT 0) iX X] := hW
    refine lv_if_eq (tgt := 31) hx hb dX0_nine_18 (by decide) (fun c6 => ?_) (fun c6 => ?_)
    · have hf := o_t hf c6
      refine lv_aload_n hx hb dX0_nine_31 rfl (lv_at hl 0 rfl) ?_
      refine lv_bipush (v := (-2)) hx hb dX0_nine_32 (by decide) ?_
      obtain ⟨r7, X8, hc8, hf⟩ := o_b2s hf
      have hp8 : List.Perm [vW g adN N, xW g adX (adN 0) (adT 0) iX X] ([xW g adX (adN 0) (adT 0) iX X] ++ [vW g adN N]) := b_perm [1] [0] 2 rfl rfl rfl rfl
      refine b_call0 ⟨rfl, rfl⟩ (va_runV (As := [.int (-2)]) (rest := []) ⟨hx, hb, hml, hown, hts⟩ (m_X0_noLow l D g H.size adX iX adN adT X (-2) r7 X8 hc8) (cwV 1 hts (lw_V q1126 q1128 qs18 q76 q1129) rfl rfl rfl (by decide +kernel) ⟨Nat.le_of_ble_eq_true rfl, Nat.le_of_ble_eq_true rfl⟩) (b_preV (pp := 1) (q := 0) hW hp8 rfl xW_0 rfl) rfl rfl hl.1 rfl (lv_room (Nat.le_of_ble_eq_true rfl)) dX0_nine_34 ⟨Nat.le_of_ble_eq_true rfl, Nat.le_of_ble_eq_true rfl⟩) hW hp8 (fun _ _ H locs hW => ?_)
      have hW : bW D g A s H locs [xW g adX (adN 0) (adT 0) iX X8, vW g adN N] := hW
      cases hf
      exact b_iret hx hb hr hlk hE hW () rfl trivial rfl dX0_nine_37
    · have hf := o_f hf c6
      refine lv_iload_n hx hb dX0_nine_21 rfl (lv_at hl 3 rfl) ?_
      refine lv_iconst (v := 0) hx hb dX0_nine_22 (by decide) ?_
      refine lv_bipush (v := 100) hx hb dX0_nine_23 (by decide) ?_
      obtain ⟨r9, hc9, hf⟩ := o_b1s hf
      have hp9 : List.Perm [vW g adN N, xW g adX (adN 0) (adT 0) iX X] ([] ++ [vW g adN N, xW g adX (adN 0) (adT 0) iX X]) := b_perm [] [0, 1] 2 rfl rfl rfl rfl
      refine b_call0 ⟨rfl, rfl⟩ (va_runS (As := [.int x3, .int 0, .int 100]) (rest := []) ⟨hx, hb, hml, hown, hts⟩ (m_X0_isIn l D g H.size x3 0 100 r9 hc9) (va_cwS 3 hts (lw_S q344 q345 q76 q346) rfl rfl rfl (by decide +kernel) ⟨Nat.le_of_ble_eq_true rfl, Nat.le_of_ble_eq_true rfl⟩) (b_preS hW hp9) rfl rfl hl.1 rfl (lv_room (Nat.le_of_ble_eq_true rfl)) dX0_nine_25 ⟨Nat.le_of_ble_eq_true rfl, Nat.le_of_ble_eq_true rfl⟩) hW hp9 (fun _ _ H locs hW => ?_)
      have hW : bW D g A s H locs [vW g adN N, xW g adX (adN 0) (adT 0) iX X] := hW
      refine lv_if_ne (tgt := 38) hx hb dX0_nine_28 (by decide) (fun c10 => ?_) (fun c10 => ?_)
      · have hf := o_f hf c10
        refine lv_aload_n hx hb dX0_nine_38 rfl (lv_at hl 0 rfl) ?_
        refine b_get hx hb hts in_X0 hown hW 1 0 0 0 rfl xW_0 rfl (by decide) ⟨rfl, rfl, rfl⟩ (hts _ q227) xW_g0 dX0_nine_39 ?_
        refine b_get hx hb hts in_X1 hown hW 0 0 1 6 rfl vW_0 rfl (by decide) ⟨rfl, rfl, rfl⟩ (hts _ q152) vW_g6 dX0_nine_42 ?_
        refine lv_iload_n hx hb dX0_nine_45 rfl (lv_at hl 1 rfl) ?_
        obtain ⟨h11, hf⟩ := o_cs hf
        refine b_iald hx hb hW 0 7 rfl vW_7 h11 dX0_nine_46 ?_
        refine lv_iload_n hx hb dX0_nine_47 rfl (lv_at hl 2 rfl) ?_
        refine lv_iload_n hx hb dX0_nine_48 rfl (lv_at hl 3 rfl) ?_
        refine lv_imul hx hb dX0_nine_49 ?_
        refine lv_iadd hx hb dX0_nine_50 ?_
        refine lv_aload_n hx hb dX0_nine_51 rfl (lv_at hl 0 rfl) ?_
        refine b_get hx hb hts in_X0 hown hW 1 0 0 0 rfl xW_0 rfl (by decide) ⟨rfl, rfl, rfl⟩ (hts _ q227) xW_g0 dX0_nine_52 ?_
        refine b_get hx hb hts in_X1 hown hW 0 0 1 5 rfl vW_0 rfl (by decide) ⟨rfl, rfl, rfl⟩ (hts _ q149) vW_g5 dX0_nine_55 ?_
        refine lv_iload_n hx hb dX0_nine_58 rfl (lv_at hl 1 rfl) ?_
        refine b_iald hx hb hW 0 6 rfl vW_6 h11 dX0_nine_59 ?_
        refine lv_iload_n hx hb dX0_nine_60 rfl (lv_at hl 2 rfl) ?_
        refine lv_iadd hx hb dX0_nine_61 ?_
        obtain ⟨h12, hf⟩ := o_cs hf
        refine lv_idiv hx hb dX0_nine_62 (o_nz h12) ?_
        refine lv_aload_n hx hb dX0_nine_63 rfl (lv_at hl 0 rfl) ?_
        refine b_get hx hb hts in_X0 hown hW 1 0 0 0 rfl xW_0 rfl (by decide) ⟨rfl, rfl, rfl⟩ (hts _ q227) xW_g0 dX0_nine_64 ?_
        refine b_get hx hb hts in_X1 hown hW 0 0 1 0 rfl vW_0 rfl (by decide) ⟨rfl, rfl, rfl⟩ (hts _ q131) vW_g0 dX0_nine_67 ?_
        refine lv_iload_n hx hb dX0_nine_70 rfl (lv_at hl 1 rfl) ?_
        refine b_iald hx hb hW 0 1 rfl vW_1 h11 dX0_nine_71 ?_
        refine lv_isub hx hb dX0_nine_72 ?_
        cases hf
        exact b_iret hx hb hr hlk hE (b_perms hW (b_ord [1, 0] 2 rfl rfl rfl)) () rfl trivial rfl dX0_nine_73
      · have hf := o_t hf c10
        refine lv_aload_n hx hb dX0_nine_31 rfl (lv_at hl 0 rfl) ?_
        refine lv_bipush (v := (-2)) hx hb dX0_nine_32 (by decide) ?_
        obtain ⟨r13, X14, hc14, hf⟩ := o_b2s hf
        have hp14 : List.Perm [vW g adN N, xW g adX (adN 0) (adT 0) iX X] ([xW g adX (adN 0) (adT 0) iX X] ++ [vW g adN N]) := b_perm [1] [0] 2 rfl rfl rfl rfl
        refine b_call0 ⟨rfl, rfl⟩ (va_runV (As := [.int (-2)]) (rest := []) ⟨hx, hb, hml, hown, hts⟩ (m_X0_noLow l D g H.size adX iX adN adT X (-2) r13 X14 hc14) (cwV 1 hts (lw_V q1126 q1128 qs18 q76 q1129) rfl rfl rfl (by decide +kernel) ⟨Nat.le_of_ble_eq_true rfl, Nat.le_of_ble_eq_true rfl⟩) (b_preV (pp := 1) (q := 0) hW hp14 rfl xW_0 rfl) rfl rfl hl.1 rfl (lv_room (Nat.le_of_ble_eq_true rfl)) dX0_nine_34 ⟨Nat.le_of_ble_eq_true rfl, Nat.le_of_ble_eq_true rfl⟩) hW hp14 (fun _ _ H locs hW => ?_)
        have hW : bW D g A s H locs [xW g adX (adN 0) (adT 0) iX X14, vW g adN N] := hW
        cases hf
        exact b_iret hx hb hr hlk hE hW () rfl trivial rfl dX0_nine_37
def f_X0_two (fu : Nat) (X : BC) (N : BC) (T : BC) (L : List Nat) (kd : Nat → Nat) (nu : Nat → Int32) (aa : Nat → Int32) (x1 : Int32) (x2 : Int32) : Option (Int32 × BC × BC) :=
 o_b1 (f_X0_allInns X N) fun (r1 : Int32) =>
 o_b1 (f_X0_isIn x1 0 r1) fun (r2 : Int32) =>
 (if r2 = 0 then
 o_b2 (f_X0_noLow X (-2)) fun (r4 : Int32) (X5 : BC) =>
 some (r4, X5, T)
 else
 o_b1 (f_X0_allInns X N) fun (r6 : Int32) =>
 o_b1 (f_X0_isIn x2 0 r6) fun (r7 : Int32) =>
 (if r7 = 0 then
 o_b2 (f_X0_noLow X (-2)) fun (r12 : Int32) (X13 : BC) =>
 some (r12, X13, T)
 else
 o_b1 (f_X0_tried X N T L kd nu aa) fun (T9 : BC) =>
 o_b1 (f_X1_night_2 fu T9 L kd nu aa x1 x2) fun (T10 : BC) =>
 o_b1 (f_X1_joy fu T10 (-1)) fun (r11 : Int32) =>
 some (r11, X, T10)))
abbrev rm_X0_two : Room := { frames := 7, cells := 0, slots := 0, locals := 167 }
set_option maxHeartbeats 4000000 in
set_option maxRecDepth 100000 in
theorem m_X0_two (l : Launch) (D : va_G) (g : Nat → ClassId) (sz : Nat) (adX : Nat → Nat) (iX : Option Nat) (adN : Nat → Nat) (adT : Nat → Nat) (fu : Nat) (X : BC) (N : BC) (T : BC) (L : List Nat) (kd : Nat → Nat) (nu : Nat → Int32) (aa : Nat → Int32) (x1 : Int32) (x2 : Int32) (rO : Int32) (XO : BC) (TO : BC) (hf : f_X0_two fu X N T L kd nu aa x1 x2 = some (rO, XO, TO)) : bMet (S := Unit) l yX0_two (ws_ yX0_two cX0_two 3 (some .int)) rm_X0_two D g sz [.ref (adX 0), .int x1, .int x2] [xW g adX (adN 0) (adT 0) iX X, vW g adN N, vW g adT T, gW L kd nu aa] (fun _ => True) (fun _ => some (.int rO)) (fun _ => [xW g adX (adN 0) (adT 0) iX XO, vW g adN N, vW g adT TO, gW L kd nu aa]) := by
  refine b_met (by decide) (Nat.le_of_ble_eq_true rfl) ?_
  intro p e s m args below meth c A Q ls hx hb hml hr hlk hown hname hts hE hl hW
  revert hW; generalize s.heap = H; intro hW
  have hl : lv_has ls 3 [(0, .ref (adX 0)), (1, .int x1), (2, .int x2)] := hl
  rw [f_X0_two] at hf
  refine lv_iload_n hx hb dX0_two_0 rfl (lv_at hl 1 rfl) ?_
  refine lv_iconst (v := 0) hx hb dX0_two_1 (by decide) ?_
  refine lv_aload_n hx hb dX0_two_2 rfl (lv_at hl 0 rfl) ?_
  obtain ⟨r1, hc1, hf⟩ := o_b1s hf
  have hp1 : List.Perm [xW g adX (adN 0) (adT 0) iX X, vW g adN N, vW g adT T, gW L kd nu aa] ([xW g adX (adN 0) (adT 0) iX X, vW g adN N] ++ [vW g adT T, gW L kd nu aa]) := b_perm [0, 1] [2, 3] 4 rfl rfl rfl rfl
  refine b_call0 ⟨rfl, rfl⟩ (va_runV (As := []) (rest := [.int 0, .int x1]) ⟨hx, hb, hml, hown, hts⟩ (m_X0_allInns l D g H.size adX iX adN adT X N r1 hc1) (cwV 0 hts (lw_V q512 q514 qs6 q76 q515) rfl rfl rfl (by decide +kernel) ⟨Nat.le_of_ble_eq_true rfl, Nat.le_of_ble_eq_true rfl⟩) (b_preV (pp := 0) (q := 0) hW hp1 rfl xW_0 rfl) rfl rfl hl.1 rfl (lv_room (Nat.le_of_ble_eq_true rfl)) dX0_two_3 ⟨Nat.le_of_ble_eq_true rfl, Nat.le_of_ble_eq_true rfl⟩) hW hp1 (fun _ _ H locs hW => ?_)
  have hW : bW D g A s H locs [xW g adX (adN 0) (adT 0) iX X, vW g adN N, vW g adT T, gW L kd nu aa] := hW
  obtain ⟨r2, hc2, hf⟩ := o_b1s hf
  have hp2 : List.Perm [xW g adX (adN 0) (adT 0) iX X, vW g adN N, vW g adT T, gW L kd nu aa] ([] ++ [xW g adX (adN 0) (adT 0) iX X, vW g adN N, vW g adT T, gW L kd nu aa]) := b_perm [] [0, 1, 2, 3] 4 rfl rfl rfl rfl
  refine b_call0 ⟨rfl, rfl⟩ (va_runS (As := [.int x1, .int 0, .int r1]) (rest := []) ⟨hx, hb, hml, hown, hts⟩ (m_X0_isIn l D g H.size x1 0 r1 r2 hc2) (va_cwS 3 hts (lw_S q344 q345 q76 q346) rfl rfl rfl (by decide +kernel) ⟨Nat.le_of_ble_eq_true rfl, Nat.le_of_ble_eq_true rfl⟩) (b_preS hW hp2) rfl rfl hl.1 rfl (lv_room (Nat.le_of_ble_eq_true rfl)) dX0_two_6 ⟨Nat.le_of_ble_eq_true rfl, Nat.le_of_ble_eq_true rfl⟩) hW hp2 (fun _ _ H locs hW => ?_)
  have hW : bW D g A s H locs [xW g adX (adN 0) (adT 0) iX X, vW g adN N, vW g adT T, gW L kd nu aa] := hW
  refine lv_if_eq (tgt := 24) hx hb dX0_two_9 (by decide) (fun c3 => ?_) (fun c3 => ?_)
  · have hf := o_t hf c3
    refine lv_aload_n hx hb dX0_two_24 rfl (lv_at hl 0 rfl) ?_
    refine lv_bipush (v := (-2)) hx hb dX0_two_25 (by decide) ?_
    obtain ⟨r4, X5, hc5, hf⟩ := o_b2s hf
    have hp5 : List.Perm [xW g adX (adN 0) (adT 0) iX X, vW g adN N, vW g adT T, gW L kd nu aa] ([xW g adX (adN 0) (adT 0) iX X] ++ [vW g adN N, vW g adT T, gW L kd nu aa]) := b_perm [0] [1, 2, 3] 4 rfl rfl rfl rfl
    refine b_call0 ⟨rfl, rfl⟩ (va_runV (As := [.int (-2)]) (rest := []) ⟨hx, hb, hml, hown, hts⟩ (m_X0_noLow l D g H.size adX iX adN adT X (-2) r4 X5 hc5) (cwV 1 hts (lw_V q1126 q1128 qs18 q76 q1129) rfl rfl rfl (by decide +kernel) ⟨Nat.le_of_ble_eq_true rfl, Nat.le_of_ble_eq_true rfl⟩) (b_preV (pp := 0) (q := 0) hW hp5 rfl xW_0 rfl) rfl rfl hl.1 rfl (lv_room (Nat.le_of_ble_eq_true rfl)) dX0_two_27 ⟨Nat.le_of_ble_eq_true rfl, Nat.le_of_ble_eq_true rfl⟩) hW hp5 (fun _ _ H locs hW => ?_)
    have hW : bW D g A s H locs [xW g adX (adN 0) (adT 0) iX X5, vW g adN N, vW g adT T, gW L kd nu aa] := hW
    cases hf
    exact b_iret hx hb hr hlk hE hW () rfl trivial rfl dX0_two_30
  · have hf := o_f hf c3
    refine lv_iload_n hx hb dX0_two_12 rfl (lv_at hl 2 rfl) ?_
    refine lv_iconst (v := 0) hx hb dX0_two_13 (by decide) ?_
    refine lv_aload_n hx hb dX0_two_14 rfl (lv_at hl 0 rfl) ?_
    obtain ⟨r6, hc6, hf⟩ := o_b1s hf
    have hp6 : List.Perm [xW g adX (adN 0) (adT 0) iX X, vW g adN N, vW g adT T, gW L kd nu aa] ([xW g adX (adN 0) (adT 0) iX X, vW g adN N] ++ [vW g adT T, gW L kd nu aa]) := b_perm [0, 1] [2, 3] 4 rfl rfl rfl rfl
    refine b_call0 ⟨rfl, rfl⟩ (va_runV (As := []) (rest := [.int 0, .int x2]) ⟨hx, hb, hml, hown, hts⟩ (m_X0_allInns l D g H.size adX iX adN adT X N r6 hc6) (cwV 0 hts (lw_V q512 q514 qs6 q76 q515) rfl rfl rfl (by decide +kernel) ⟨Nat.le_of_ble_eq_true rfl, Nat.le_of_ble_eq_true rfl⟩) (b_preV (pp := 0) (q := 0) hW hp6 rfl xW_0 rfl) rfl rfl hl.1 rfl (lv_room (Nat.le_of_ble_eq_true rfl)) dX0_two_15 ⟨Nat.le_of_ble_eq_true rfl, Nat.le_of_ble_eq_true rfl⟩) hW hp6 (fun _ _ H locs hW => ?_)
    have hW : bW D g A s H locs [xW g adX (adN 0) (adT 0) iX X, vW g adN N, vW g adT T, gW L kd nu aa] := hW
    obtain ⟨r7, hc7, hf⟩ := o_b1s hf
    have hp7 : List.Perm [xW g adX (adN 0) (adT 0) iX X, vW g adN N, vW g adT T, gW L kd nu aa] ([] ++ [xW g adX (adN 0) (adT 0) iX X, vW g adN N, vW g adT T, gW L kd nu aa]) := b_perm [] [0, 1, 2, 3] 4 rfl rfl rfl rfl
    refine b_call0 ⟨rfl, rfl⟩ (va_runS (As := [.int x2, .int 0, .int r6]) (rest := []) ⟨hx, hb, hml, hown, hts⟩ (m_X0_isIn l D g H.size x2 0 r6 r7 hc7) (va_cwS 3 hts (lw_S q344 q345 q76 q346) rfl rfl rfl (by decide +kernel) ⟨Nat.le_of_ble_eq_true rfl, Nat.le_of_ble_eq_true rfl⟩) (b_preS hW hp7) rfl rfl hl.1 rfl (lv_room (Nat.le_of_ble_eq_true rfl)) dX0_two_18 ⟨Nat.le_of_ble_eq_true rfl, Nat.le_of_ble_eq_true rfl⟩) hW hp7 (fun _ _ H locs hW => ?_)
    have hW : bW D g A s H locs [xW g adX (adN 0) (adT 0) iX X, vW g adN N, vW g adT T, gW L kd nu aa] := hW
    refine lv_if_ne (tgt := 31) hx hb dX0_two_21 (by decide) (fun c8 => ?_) (fun c8 => ?_)
    · have hf := o_f hf c8
      refine lv_aload_n hx hb dX0_two_31 rfl (lv_at hl 0 rfl) ?_
      obtain ⟨T9, hc9, hf⟩ := o_b1s hf
      have hp9 : List.Perm [xW g adX (adN 0) (adT 0) iX X, vW g adN N, vW g adT T, gW L kd nu aa] ([xW g adX (adN 0) (adT 0) iX X, vW g adN N, vW g adT T, gW L kd nu aa] ++ []) := b_perm [0, 1, 2, 3] [] 4 rfl rfl rfl rfl
      refine b_call0 ⟨rfl, rfl⟩ (va_runV (As := []) (rest := []) ⟨hx, hb, hml, hown, hts⟩ (m_X0_tried l D g H.size adX iX adN adT X N T L kd nu aa T9 hc9) (cwV 0 hts (lw_V q1223 q1225 qs22 q76 q1226) rfl rfl rfl (by decide +kernel) ⟨Nat.le_of_ble_eq_true rfl, Nat.le_of_ble_eq_true rfl⟩) (b_preV (pp := 0) (q := 0) hW hp9 rfl xW_0 rfl) rfl rfl hl.1 rfl (lv_room (Nat.le_of_ble_eq_true rfl)) dX0_two_32 ⟨Nat.le_of_ble_eq_true rfl, Nat.le_of_ble_eq_true rfl⟩) hW hp9 (fun _ _ H locs hW => ?_)
      have hW : bW D g A s H locs [xW g adX (adN 0) (adT 0) iX X, vW g adN N, vW g adT T9, gW L kd nu aa] := hW
      refine lv_iload_n hx hb dX0_two_35 rfl (lv_at hl 1 rfl) ?_
      refine lv_iload_n hx hb dX0_two_36 rfl (lv_at hl 2 rfl) ?_
      obtain ⟨T10, hc10, hf⟩ := o_b1s hf
      have hp10 : List.Perm [xW g adX (adN 0) (adT 0) iX X, vW g adN N, vW g adT T9, gW L kd nu aa] ([vW g adT T9, gW L kd nu aa] ++ [xW g adX (adN 0) (adT 0) iX X, vW g adN N]) := b_perm [2, 3] [0, 1] 4 rfl rfl rfl rfl
      refine b_call0 ⟨rfl, rfl⟩ (va_runV (As := [.int x1, .int x2]) (rest := []) ⟨hx, hb, hml, hown, hts⟩ (m_X1_night_2 l D g H.size adT fu T9 L kd nu aa x1 x2 T10 hc10) (cwV 2 hts (lw_V q1253 q1254 q1255 q77 q1256) rfl rfl rfl (by decide +kernel) ⟨Nat.le_of_ble_eq_true rfl, Nat.le_of_ble_eq_true rfl⟩) (b_preV (pp := 2) (q := 0) hW hp10 rfl vW_0 rfl) rfl rfl hl.1 rfl (lv_room (Nat.le_of_ble_eq_true rfl)) dX0_two_37 ⟨Nat.le_of_ble_eq_true rfl, Nat.le_of_ble_eq_true rfl⟩) hW hp10 (fun _ _ H locs hW => ?_)
      have hW : bW D g A s H locs [vW g adT T10, gW L kd nu aa, xW g adX (adN 0) (adT 0) iX X, vW g adN N] := hW
      refine lv_iconst (v := (-1)) hx hb dX0_two_40 (by decide) ?_
      obtain ⟨r11, hc11, hf⟩ := o_b1s hf
      have hp11 : List.Perm [vW g adT T10, gW L kd nu aa, xW g adX (adN 0) (adT 0) iX X, vW g adN N] ([vW g adT T10] ++ [gW L kd nu aa, xW g adX (adN 0) (adT 0) iX X, vW g adN N]) := b_perm [0] [1, 2, 3] 4 rfl rfl rfl rfl
      refine b_call0 ⟨rfl, rfl⟩ (va_runV (As := [.int (-1)]) (rest := []) ⟨hx, hb, hml, hown, hts⟩ (m_X1_joy l D g H.size adT fu T10 (-1) r11 hc11) (cwV 1 hts (lw_V q1188 q1189 q1190 q77 q1191) rfl rfl rfl (by decide +kernel) ⟨Nat.le_of_ble_eq_true rfl, Nat.le_of_ble_eq_true rfl⟩) (b_preV (pp := 0) (q := 0) hW hp11 rfl vW_0 rfl) rfl rfl hl.1 rfl (lv_room (Nat.le_of_ble_eq_true rfl)) dX0_two_41 ⟨Nat.le_of_ble_eq_true rfl, Nat.le_of_ble_eq_true rfl⟩) hW hp11 (fun _ _ H locs hW => ?_)
      have hW : bW D g A s H locs [vW g adT T10, gW L kd nu aa, xW g adX (adN 0) (adT 0) iX X, vW g adN N] := hW
      cases hf
      exact b_iret hx hb hr hlk hE (b_perms hW (b_ord [2, 3, 0, 1] 4 rfl rfl rfl)) () rfl trivial rfl dX0_two_44
    · have hf := o_t hf c8
      refine lv_aload_n hx hb dX0_two_24 rfl (lv_at hl 0 rfl) ?_
      refine lv_bipush (v := (-2)) hx hb dX0_two_25 (by decide) ?_
      obtain ⟨r12, X13, hc13, hf⟩ := o_b2s hf
      have hp13 : List.Perm [xW g adX (adN 0) (adT 0) iX X, vW g adN N, vW g adT T, gW L kd nu aa] ([xW g adX (adN 0) (adT 0) iX X] ++ [vW g adN N, vW g adT T, gW L kd nu aa]) := b_perm [0] [1, 2, 3] 4 rfl rfl rfl rfl
      refine b_call0 ⟨rfl, rfl⟩ (va_runV (As := [.int (-2)]) (rest := []) ⟨hx, hb, hml, hown, hts⟩ (m_X0_noLow l D g H.size adX iX adN adT X (-2) r12 X13 hc13) (cwV 1 hts (lw_V q1126 q1128 qs18 q76 q1129) rfl rfl rfl (by decide +kernel) ⟨Nat.le_of_ble_eq_true rfl, Nat.le_of_ble_eq_true rfl⟩) (b_preV (pp := 0) (q := 0) hW hp13 rfl xW_0 rfl) rfl rfl hl.1 rfl (lv_room (Nat.le_of_ble_eq_true rfl)) dX0_two_27 ⟨Nat.le_of_ble_eq_true rfl, Nat.le_of_ble_eq_true rfl⟩) hW hp13 (fun _ _ H locs hW => ?_)
      have hW : bW D g A s H locs [xW g adX (adN 0) (adT 0) iX X13, vW g adN N, vW g adT T, gW L kd nu aa] := hW
      cases hf
      exact b_iret hx hb hr hlk hE hW () rfl trivial rfl dX0_two_30
def f_X0_years (fu : Nat) (X : BC) (N : BC) (T : BC) (L : List Nat) (kd : Nat → Nat) (nu : Nat → Int32) (aa : Nat → Int32) (x1 : Int32) (x2 : Int32) : Option (Int32 × BC × BC) :=
 o_b1 (f_X0_isYears x1) fun (r1 : Int32) =>
 (if r1 = 0 then
 o_b2 (f_X0_noLow X (-2)) fun (r3 : Int32) (X4 : BC) =>
 some (r3, X4, T)
 else
 (if x2 = (-1) then
 o_b1 (f_X0_tried X N T L kd nu aa) fun (T6 : BC) =>
 o_b2 (f_X1_years fu T6 L kd nu aa x1 x2) fun (r7 : Int32) (T8 : BC) =>
 some (r7, X, T8)
 else
 o_b1 (f_X0_isGoer X N x2) fun (r9 : Int32) =>
 (if r9 = 0 then
 o_b2 (f_X0_noLow X (-2)) fun (r11 : Int32) (X12 : BC) =>
 some (r11, X12, T)
 else
 o_b1 (f_X0_tried X N T L kd nu aa) fun (T13 : BC) =>
 o_b2 (f_X1_years fu T13 L kd nu aa x1 x2) fun (r14 : Int32) (T15 : BC) =>
 some (r14, X, T15))))
abbrev rm_X0_years : Room := { frames := 8, cells := 0, slots := 0, locals := 188 }
set_option maxHeartbeats 4000000 in
set_option maxRecDepth 100000 in
theorem m_X0_years (l : Launch) (D : va_G) (g : Nat → ClassId) (sz : Nat) (adX : Nat → Nat) (iX : Option Nat) (adN : Nat → Nat) (adT : Nat → Nat) (fu : Nat) (X : BC) (N : BC) (T : BC) (L : List Nat) (kd : Nat → Nat) (nu : Nat → Int32) (aa : Nat → Int32) (x1 : Int32) (x2 : Int32) (rO : Int32) (XO : BC) (TO : BC) (hf : f_X0_years fu X N T L kd nu aa x1 x2 = some (rO, XO, TO)) : bMet (S := Unit) l yX0_years (ws_ yX0_years cX0_years 3 (some .int)) rm_X0_years D g sz [.ref (adX 0), .int x1, .int x2] [xW g adX (adN 0) (adT 0) iX X, vW g adN N, vW g adT T, gW L kd nu aa] (fun _ => True) (fun _ => some (.int rO)) (fun _ => [xW g adX (adN 0) (adT 0) iX XO, vW g adN N, vW g adT TO, gW L kd nu aa]) := by
  refine b_met (by decide) (Nat.le_of_ble_eq_true rfl) ?_
  intro p e s m args below meth c A Q ls hx hb hml hr hlk hown hname hts hE hl hW
  revert hW; generalize s.heap = H; intro hW
  have hl : lv_has ls 3 [(0, .ref (adX 0)), (1, .int x1), (2, .int x2)] := hl
  rw [f_X0_years] at hf
  refine lv_iload_n hx hb dX0_years_0 rfl (lv_at hl 1 rfl) ?_
  obtain ⟨r1, hc1, hf⟩ := o_b1s hf
  have hp1 : List.Perm [xW g adX (adN 0) (adT 0) iX X, vW g adN N, vW g adT T, gW L kd nu aa] ([] ++ [xW g adX (adN 0) (adT 0) iX X, vW g adN N, vW g adT T, gW L kd nu aa]) := b_perm [] [0, 1, 2, 3] 4 rfl rfl rfl rfl
  refine b_call0 ⟨rfl, rfl⟩ (va_runS (As := [.int x1]) (rest := []) ⟨hx, hb, hml, hown, hts⟩ (m_X0_isYears l D g H.size x1 r1 hc1) (va_cwS 1 hts (lw_S q1271 q1272 q76 q1273) rfl rfl rfl (by decide +kernel) ⟨Nat.le_of_ble_eq_true rfl, Nat.le_of_ble_eq_true rfl⟩) (b_preS hW hp1) rfl rfl hl.1 rfl (lv_room (Nat.le_of_ble_eq_true rfl)) dX0_years_1 ⟨Nat.le_of_ble_eq_true rfl, Nat.le_of_ble_eq_true rfl⟩) hW hp1 (fun _ _ H locs hW => ?_)
  have hW : bW D g A s H locs [xW g adX (adN 0) (adT 0) iX X, vW g adN N, vW g adT T, gW L kd nu aa] := hW
  refine lv_if_eq (tgt := 32) hx hb dX0_years_4 (by decide) (fun c2 => ?_) (fun c2 => ?_)
  · have hf := o_t hf c2
    refine lv_aload_n hx hb dX0_years_32 rfl (lv_at hl 0 rfl) ?_
    refine lv_bipush (v := (-2)) hx hb dX0_years_33 (by decide) ?_
    obtain ⟨r3, X4, hc4, hf⟩ := o_b2s hf
    have hp4 : List.Perm [xW g adX (adN 0) (adT 0) iX X, vW g adN N, vW g adT T, gW L kd nu aa] ([xW g adX (adN 0) (adT 0) iX X] ++ [vW g adN N, vW g adT T, gW L kd nu aa]) := b_perm [0] [1, 2, 3] 4 rfl rfl rfl rfl
    refine b_call0 ⟨rfl, rfl⟩ (va_runV (As := [.int (-2)]) (rest := []) ⟨hx, hb, hml, hown, hts⟩ (m_X0_noLow l D g H.size adX iX adN adT X (-2) r3 X4 hc4) (cwV 1 hts (lw_V q1126 q1128 qs18 q76 q1129) rfl rfl rfl (by decide +kernel) ⟨Nat.le_of_ble_eq_true rfl, Nat.le_of_ble_eq_true rfl⟩) (b_preV (pp := 0) (q := 0) hW hp4 rfl xW_0 rfl) rfl rfl hl.1 rfl (lv_room (Nat.le_of_ble_eq_true rfl)) dX0_years_35 ⟨Nat.le_of_ble_eq_true rfl, Nat.le_of_ble_eq_true rfl⟩) hW hp4 (fun _ _ H locs hW => ?_)
    have hW : bW D g A s H locs [xW g adX (adN 0) (adT 0) iX X4, vW g adN N, vW g adT T, gW L kd nu aa] := hW
    cases hf
    exact b_iret hx hb hr hlk hE hW () rfl trivial rfl dX0_years_38
  · have hf := o_f hf c2
    refine lv_iload_n hx hb dX0_years_7 rfl (lv_at hl 2 rfl) ?_
    refine lv_iconst (v := (-1)) hx hb dX0_years_8 (by decide) ?_
    refine lv_icmp_eq (tgt := 20) hx hb dX0_years_9 (by decide) (fun c5 => ?_) (fun c5 => ?_)
    · have hf := o_t hf c5
      refine lv_aload_n hx hb dX0_years_20 rfl (lv_at hl 0 rfl) ?_
      obtain ⟨T6, hc6, hf⟩ := o_b1s hf
      have hp6 : List.Perm [xW g adX (adN 0) (adT 0) iX X, vW g adN N, vW g adT T, gW L kd nu aa] ([xW g adX (adN 0) (adT 0) iX X, vW g adN N, vW g adT T, gW L kd nu aa] ++ []) := b_perm [0, 1, 2, 3] [] 4 rfl rfl rfl rfl
      refine b_call0 ⟨rfl, rfl⟩ (va_runV (As := []) (rest := []) ⟨hx, hb, hml, hown, hts⟩ (m_X0_tried l D g H.size adX iX adN adT X N T L kd nu aa T6 hc6) (cwV 0 hts (lw_V q1223 q1225 qs22 q76 q1226) rfl rfl rfl (by decide +kernel) ⟨Nat.le_of_ble_eq_true rfl, Nat.le_of_ble_eq_true rfl⟩) (b_preV (pp := 0) (q := 0) hW hp6 rfl xW_0 rfl) rfl rfl hl.1 rfl (lv_room (Nat.le_of_ble_eq_true rfl)) dX0_years_21 ⟨Nat.le_of_ble_eq_true rfl, Nat.le_of_ble_eq_true rfl⟩) hW hp6 (fun _ _ H locs hW => ?_)
      have hW : bW D g A s H locs [xW g adX (adN 0) (adT 0) iX X, vW g adN N, vW g adT T6, gW L kd nu aa] := hW
      refine lv_iload_n hx hb dX0_years_24 rfl (lv_at hl 1 rfl) ?_
      refine lv_iload_n hx hb dX0_years_25 rfl (lv_at hl 2 rfl) ?_
      obtain ⟨r7, T8, hc8, hf⟩ := o_b2s hf
      have hp8 : List.Perm [xW g adX (adN 0) (adT 0) iX X, vW g adN N, vW g adT T6, gW L kd nu aa] ([vW g adT T6, gW L kd nu aa] ++ [xW g adX (adN 0) (adT 0) iX X, vW g adN N]) := b_perm [2, 3] [0, 1] 4 rfl rfl rfl rfl
      refine b_call0 ⟨rfl, rfl⟩ (va_runV (As := [.int x1, .int x2]) (rest := []) ⟨hx, hb, hml, hown, hts⟩ (m_X1_years l D g H.size adT fu T6 L kd nu aa x1 x2 r7 T8 hc8) (cwV 2 hts (lw_V q1274 q1275 q1276 q77 q1277) rfl rfl rfl (by decide +kernel) ⟨Nat.le_of_ble_eq_true rfl, Nat.le_of_ble_eq_true rfl⟩) (b_preV (pp := 2) (q := 0) hW hp8 rfl vW_0 rfl) rfl rfl hl.1 rfl (lv_room (Nat.le_of_ble_eq_true rfl)) dX0_years_26 ⟨Nat.le_of_ble_eq_true rfl, Nat.le_of_ble_eq_true rfl⟩) hW hp8 (fun _ _ H locs hW => ?_)
      have hW : bW D g A s H locs [vW g adT T8, gW L kd nu aa, xW g adX (adN 0) (adT 0) iX X, vW g adN N] := hW
      refine lv_goto (tgt := 38) hx hb dX0_years_29 (by decide) ?_
      cases hf
      exact b_iret hx hb hr hlk hE (b_perms hW (b_ord [2, 3, 0, 1] 4 rfl rfl rfl)) () rfl trivial rfl dX0_years_38
    · have hf := o_f hf c5
      refine lv_aload_n hx hb dX0_years_12 rfl (lv_at hl 0 rfl) ?_
      refine lv_iload_n hx hb dX0_years_13 rfl (lv_at hl 2 rfl) ?_
      obtain ⟨r9, hc9, hf⟩ := o_b1s hf
      have hp9 : List.Perm [xW g adX (adN 0) (adT 0) iX X, vW g adN N, vW g adT T, gW L kd nu aa] ([xW g adX (adN 0) (adT 0) iX X, vW g adN N] ++ [vW g adT T, gW L kd nu aa]) := b_perm [0, 1] [2, 3] 4 rfl rfl rfl rfl
      refine b_call0 ⟨rfl, rfl⟩ (va_runV (As := [.int x2]) (rest := []) ⟨hx, hb, hml, hown, hts⟩ (m_X0_isGoer l D g H.size adX iX adN adT X N x2 r9 hc9) (cwV 1 hts (lw_V q485 q487 qs4 q76 q488) rfl rfl rfl (by decide +kernel) ⟨Nat.le_of_ble_eq_true rfl, Nat.le_of_ble_eq_true rfl⟩) (b_preV (pp := 0) (q := 0) hW hp9 rfl xW_0 rfl) rfl rfl hl.1 rfl (lv_room (Nat.le_of_ble_eq_true rfl)) dX0_years_14 ⟨Nat.le_of_ble_eq_true rfl, Nat.le_of_ble_eq_true rfl⟩) hW hp9 (fun _ _ H locs hW => ?_)
      have hW : bW D g A s H locs [xW g adX (adN 0) (adT 0) iX X, vW g adN N, vW g adT T, gW L kd nu aa] := hW
      refine lv_if_eq (tgt := 32) hx hb dX0_years_17 (by decide) (fun c10 => ?_) (fun c10 => ?_)
      · have hf := o_t hf c10
        refine lv_aload_n hx hb dX0_years_32 rfl (lv_at hl 0 rfl) ?_
        refine lv_bipush (v := (-2)) hx hb dX0_years_33 (by decide) ?_
        obtain ⟨r11, X12, hc12, hf⟩ := o_b2s hf
        have hp12 : List.Perm [xW g adX (adN 0) (adT 0) iX X, vW g adN N, vW g adT T, gW L kd nu aa] ([xW g adX (adN 0) (adT 0) iX X] ++ [vW g adN N, vW g adT T, gW L kd nu aa]) := b_perm [0] [1, 2, 3] 4 rfl rfl rfl rfl
        refine b_call0 ⟨rfl, rfl⟩ (va_runV (As := [.int (-2)]) (rest := []) ⟨hx, hb, hml, hown, hts⟩ (m_X0_noLow l D g H.size adX iX adN adT X (-2) r11 X12 hc12) (cwV 1 hts (lw_V q1126 q1128 qs18 q76 q1129) rfl rfl rfl (by decide +kernel) ⟨Nat.le_of_ble_eq_true rfl, Nat.le_of_ble_eq_true rfl⟩) (b_preV (pp := 0) (q := 0) hW hp12 rfl xW_0 rfl) rfl rfl hl.1 rfl (lv_room (Nat.le_of_ble_eq_true rfl)) dX0_years_35 ⟨Nat.le_of_ble_eq_true rfl, Nat.le_of_ble_eq_true rfl⟩) hW hp12 (fun _ _ H locs hW => ?_)
        have hW : bW D g A s H locs [xW g adX (adN 0) (adT 0) iX X12, vW g adN N, vW g adT T, gW L kd nu aa] := hW
        cases hf
        exact b_iret hx hb hr hlk hE hW () rfl trivial rfl dX0_years_38
      · have hf := o_f hf c10
        refine lv_aload_n hx hb dX0_years_20 rfl (lv_at hl 0 rfl) ?_
        obtain ⟨T13, hc13, hf⟩ := o_b1s hf
        have hp13 : List.Perm [xW g adX (adN 0) (adT 0) iX X, vW g adN N, vW g adT T, gW L kd nu aa] ([xW g adX (adN 0) (adT 0) iX X, vW g adN N, vW g adT T, gW L kd nu aa] ++ []) := b_perm [0, 1, 2, 3] [] 4 rfl rfl rfl rfl
        refine b_call0 ⟨rfl, rfl⟩ (va_runV (As := []) (rest := []) ⟨hx, hb, hml, hown, hts⟩ (m_X0_tried l D g H.size adX iX adN adT X N T L kd nu aa T13 hc13) (cwV 0 hts (lw_V q1223 q1225 qs22 q76 q1226) rfl rfl rfl (by decide +kernel) ⟨Nat.le_of_ble_eq_true rfl, Nat.le_of_ble_eq_true rfl⟩) (b_preV (pp := 0) (q := 0) hW hp13 rfl xW_0 rfl) rfl rfl hl.1 rfl (lv_room (Nat.le_of_ble_eq_true rfl)) dX0_years_21 ⟨Nat.le_of_ble_eq_true rfl, Nat.le_of_ble_eq_true rfl⟩) hW hp13 (fun _ _ H locs hW => ?_)
        have hW : bW D g A s H locs [xW g adX (adN 0) (adT 0) iX X, vW g adN N, vW g adT T13, gW L kd nu aa] := hW
        refine lv_iload_n hx hb dX0_years_24 rfl (lv_at hl 1 rfl) ?_
        refine lv_iload_n hx hb dX0_years_25 rfl (lv_at hl 2 rfl) ?_
        obtain ⟨r14, T15, hc15, hf⟩ := o_b2s hf
        have hp15 : List.Perm [xW g adX (adN 0) (adT 0) iX X, vW g adN N, vW g adT T13, gW L kd nu aa] ([vW g adT T13, gW L kd nu aa] ++ [xW g adX (adN 0) (adT 0) iX X, vW g adN N]) := b_perm [2, 3] [0, 1] 4 rfl rfl rfl rfl
        refine b_call0 ⟨rfl, rfl⟩ (va_runV (As := [.int x1, .int x2]) (rest := []) ⟨hx, hb, hml, hown, hts⟩ (m_X1_years l D g H.size adT fu T13 L kd nu aa x1 x2 r14 T15 hc15) (cwV 2 hts (lw_V q1274 q1275 q1276 q77 q1277) rfl rfl rfl (by decide +kernel) ⟨Nat.le_of_ble_eq_true rfl, Nat.le_of_ble_eq_true rfl⟩) (b_preV (pp := 2) (q := 0) hW hp15 rfl vW_0 rfl) rfl rfl hl.1 rfl (lv_room (Nat.le_of_ble_eq_true rfl)) dX0_years_26 ⟨Nat.le_of_ble_eq_true rfl, Nat.le_of_ble_eq_true rfl⟩) hW hp15 (fun _ _ H locs hW => ?_)
        have hW : bW D g A s H locs [vW g adT T15, gW L kd nu aa, xW g adX (adN 0) (adT 0) iX X, vW g adN N] := hW
        refine lv_goto (tgt := 38) hx hb dX0_years_29 (by decide) ?_
        cases hf
        exact b_iret hx hb hr hlk hE (b_perms hW (b_ord [2, 3, 0, 1] 4 rfl rfl rfl)) () rfl trivial rfl dX0_years_38
def f_X0_then (fu : Nat) (X : BC) (N : BC) (T : BC) (L : List Nat) (kd : Nat → Nat) (nu : Nat → Int32) (aa : Nat → Int32) (x1 : Int32) (x2 : Int32) (x3 : Int32) : Option (Int32 × BC × BC) :=
 o_b1 (f_X0_isYears x1) fun (r1 : Int32) =>
 (if r1 = 0 then
 o_b2 (f_X0_no X (-2)) fun (r3 : Int32) (X4 : BC) =>
 some (r3, X4, T)
 else
 o_b1 (f_X1_isInn N x2) fun (r5 : Int32) =>
 (if r5 = 0 then
 o_b2 (f_X0_no X (-2)) fun (r7 : Int32) (X8 : BC) =>
 some (r7, X8, T)
 else
 o_b1 (f_X0_isIn x3 0 2) fun (r9 : Int32) =>
 (if r9 = 0 then
 o_b2 (f_X0_no X (-2)) fun (r18 : Int32) (X19 : BC) =>
 some (r18, X19, T)
 else
 o_b1 (f_X0_tried X N T L kd nu aa) fun (T11 : BC) =>
 o_b2 (f_X0_takes fu T11 L kd nu aa x1 x2) fun (r12 : Int32) (T13 : BC) =>
 (if x3 = 0 then
 o_ck (inB x2 6) (some (T13.1 1 (ix x2), X, T13))
 else
 (if x3 = 1 then
 o_ck (inB x2 6) (some (T13.1 4 (ix x2), X, T13))
 else
 some (r12, X, T13))))))
abbrev rm_X0_then : Room := { frames := 8, cells := 0, slots := 0, locals := 188 }
set_option maxHeartbeats 4000000 in
set_option maxRecDepth 100000 in
theorem m_X0_then (l : Launch) (D : va_G) (g : Nat → ClassId) (sz : Nat) (adX : Nat → Nat) (iX : Option Nat) (adN : Nat → Nat) (adT : Nat → Nat) (fu : Nat) (X : BC) (N : BC) (T : BC) (L : List Nat) (kd : Nat → Nat) (nu : Nat → Int32) (aa : Nat → Int32) (x1 : Int32) (x2 : Int32) (x3 : Int32) (rO : Int32) (XO : BC) (TO : BC) (hf : f_X0_then fu X N T L kd nu aa x1 x2 x3 = some (rO, XO, TO)) : bMet (S := Unit) l yX0_then (ws_ yX0_then cX0_then 6 (some .int)) rm_X0_then D g sz [.ref (adX 0), .int x1, .int x2, .int x3] [xW g adX (adN 0) (adT 0) iX X, vW g adN N, vW g adT T, gW L kd nu aa] (fun _ => True) (fun _ => some (.int rO)) (fun _ => [xW g adX (adN 0) (adT 0) iX XO, vW g adN N, vW g adT TO, gW L kd nu aa]) := by
  refine b_met (by decide) (Nat.le_of_ble_eq_true rfl) ?_
  intro p e s m args below meth c A Q ls hx hb hml hr hlk hown hname hts hE hl hW
  revert hW; generalize s.heap = H; intro hW
  have hl : lv_has ls 6 [(0, .ref (adX 0)), (1, .int x1), (2, .int x2), (3, .int x3)] := hl
  rw [f_X0_then] at hf
  refine lv_iload_n hx hb dX0_then_0 rfl (lv_at hl 1 rfl) ?_
  obtain ⟨r1, hc1, hf⟩ := o_b1s hf
  have hp1 : List.Perm [xW g adX (adN 0) (adT 0) iX X, vW g adN N, vW g adT T, gW L kd nu aa] ([] ++ [xW g adX (adN 0) (adT 0) iX X, vW g adN N, vW g adT T, gW L kd nu aa]) := b_perm [] [0, 1, 2, 3] 4 rfl rfl rfl rfl
  refine b_call0 ⟨rfl, rfl⟩ (va_runS (As := [.int x1]) (rest := []) ⟨hx, hb, hml, hown, hts⟩ (m_X0_isYears l D g H.size x1 r1 hc1) (va_cwS 1 hts (lw_S q1271 q1272 q76 q1273) rfl rfl rfl (by decide +kernel) ⟨Nat.le_of_ble_eq_true rfl, Nat.le_of_ble_eq_true rfl⟩) (b_preS hW hp1) rfl rfl hl.1 rfl (lv_room (Nat.le_of_ble_eq_true rfl)) dX0_then_1 ⟨Nat.le_of_ble_eq_true rfl, Nat.le_of_ble_eq_true rfl⟩) hW hp1 (fun _ _ H locs hW => ?_)
  have hW : bW D g A s H locs [xW g adX (adN 0) (adT 0) iX X, vW g adN N, vW g adT T, gW L kd nu aa] := hW
  refine lv_if_eq (tgt := 27) hx hb dX0_then_4 (by decide) (fun c2 => ?_) (fun c2 => ?_)
  · have hf := o_t hf c2
    refine lv_aload_n hx hb dX0_then_27 rfl (lv_at hl 0 rfl) ?_
    refine lv_bipush (v := (-2)) hx hb dX0_then_28 (by decide) ?_
    obtain ⟨r3, X4, hc4, hf⟩ := o_b2s hf
    have hp4 : List.Perm [xW g adX (adN 0) (adT 0) iX X, vW g adN N, vW g adT T, gW L kd nu aa] ([xW g adX (adN 0) (adT 0) iX X] ++ [vW g adN N, vW g adT T, gW L kd nu aa]) := b_perm [0] [1, 2, 3] 4 rfl rfl rfl rfl
    refine b_call0 ⟨rfl, rfl⟩ (va_runV (As := [.int (-2)]) (rest := []) ⟨hx, hb, hml, hown, hts⟩ (m_X0_no l D g H.size adX iX adN adT X (-2) r3 X4 hc4) (cwV 1 hts (lw_V q347 q349 qs2 q76 q350) rfl rfl rfl (by decide +kernel) ⟨Nat.le_of_ble_eq_true rfl, Nat.le_of_ble_eq_true rfl⟩) (b_preV (pp := 0) (q := 0) hW hp4 rfl xW_0 rfl) rfl rfl hl.1 rfl (lv_room (Nat.le_of_ble_eq_true rfl)) dX0_then_30 ⟨Nat.le_of_ble_eq_true rfl, Nat.le_of_ble_eq_true rfl⟩) hW hp4 (fun _ _ H locs hW => ?_)
    have hW : bW D g A s H locs [xW g adX (adN 0) (adT 0) iX X4, vW g adN N, vW g adT T, gW L kd nu aa] := hW
    cases hf
    exact b_iret hx hb hr hlk hE hW () rfl trivial rfl dX0_then_33
  · have hf := o_f hf c2
    refine lv_aload_n hx hb dX0_then_7 rfl (lv_at hl 0 rfl) ?_
    refine b_get hx hb hts in_X0 hown hW 0 0 0 0 rfl xW_0 rfl (by decide) ⟨rfl, rfl, rfl⟩ (hts _ q227) xW_g0 dX0_then_8 ?_
    refine lv_iload_n hx hb dX0_then_11 rfl (lv_at hl 2 rfl) ?_
    obtain ⟨r5, hc5, hf⟩ := o_b1s hf
    have hp5 : List.Perm [xW g adX (adN 0) (adT 0) iX X, vW g adN N, vW g adT T, gW L kd nu aa] ([vW g adN N] ++ [xW g adX (adN 0) (adT 0) iX X, vW g adT T, gW L kd nu aa]) := b_perm [1] [0, 2, 3] 4 rfl rfl rfl rfl
    refine b_call0 ⟨rfl, rfl⟩ (va_runV (As := [.int x2]) (rest := []) ⟨hx, hb, hml, hown, hts⟩ (m_X1_isInn l D g H.size adN N x2 r5 hc5) (cwV 1 hts (lw_V q672 q673 q674 q77 q675) rfl rfl rfl (by decide +kernel) ⟨Nat.le_of_ble_eq_true rfl, Nat.le_of_ble_eq_true rfl⟩) (b_preV (pp := 1) (q := 0) hW hp5 rfl vW_0 rfl) rfl rfl hl.1 rfl (lv_room (Nat.le_of_ble_eq_true rfl)) dX0_then_12 ⟨Nat.le_of_ble_eq_true rfl, Nat.le_of_ble_eq_true rfl⟩) hW hp5 (fun _ _ H locs hW => ?_)
    have hW : bW D g A s H locs [vW g adN N, xW g adX (adN 0) (adT 0) iX X, vW g adT T, gW L kd nu aa] := hW
    refine lv_if_eq (tgt := 27) hx hb dX0_then_15 (by decide) (fun c6 => ?_) (fun c6 => ?_)
    · have hf := o_t hf c6
      refine lv_aload_n hx hb dX0_then_27 rfl (lv_at hl 0 rfl) ?_
      refine lv_bipush (v := (-2)) hx hb dX0_then_28 (by decide) ?_
      obtain ⟨r7, X8, hc8, hf⟩ := o_b2s hf
      have hp8 : List.Perm [vW g adN N, xW g adX (adN 0) (adT 0) iX X, vW g adT T, gW L kd nu aa] ([xW g adX (adN 0) (adT 0) iX X] ++ [vW g adN N, vW g adT T, gW L kd nu aa]) := b_perm [1] [0, 2, 3] 4 rfl rfl rfl rfl
      refine b_call0 ⟨rfl, rfl⟩ (va_runV (As := [.int (-2)]) (rest := []) ⟨hx, hb, hml, hown, hts⟩ (m_X0_no l D g H.size adX iX adN adT X (-2) r7 X8 hc8) (cwV 1 hts (lw_V q347 q349 qs2 q76 q350) rfl rfl rfl (by decide +kernel) ⟨Nat.le_of_ble_eq_true rfl, Nat.le_of_ble_eq_true rfl⟩) (b_preV (pp := 1) (q := 0) hW hp8 rfl xW_0 rfl) rfl rfl hl.1 rfl (lv_room (Nat.le_of_ble_eq_true rfl)) dX0_then_30 ⟨Nat.le_of_ble_eq_true rfl, Nat.le_of_ble_eq_true rfl⟩) hW hp8 (fun _ _ H locs hW => ?_)
      have hW : bW D g A s H locs [xW g adX (adN 0) (adT 0) iX X8, vW g adN N, vW g adT T, gW L kd nu aa] := hW
      cases hf
      exact b_iret hx hb hr hlk hE hW () rfl trivial rfl dX0_then_33
    · have hf := o_f hf c6
      refine lv_iload_n hx hb dX0_then_18 rfl (lv_at hl 3 rfl) ?_
      refine lv_iconst (v := 0) hx hb dX0_then_19 (by decide) ?_
      refine lv_iconst (v := 2) hx hb dX0_then_20 (by decide) ?_
      obtain ⟨r9, hc9, hf⟩ := o_b1s hf
      have hp9 : List.Perm [vW g adN N, xW g adX (adN 0) (adT 0) iX X, vW g adT T, gW L kd nu aa] ([] ++ [vW g adN N, xW g adX (adN 0) (adT 0) iX X, vW g adT T, gW L kd nu aa]) := b_perm [] [0, 1, 2, 3] 4 rfl rfl rfl rfl
      refine b_call0 ⟨rfl, rfl⟩ (va_runS (As := [.int x3, .int 0, .int 2]) (rest := []) ⟨hx, hb, hml, hown, hts⟩ (m_X0_isIn l D g H.size x3 0 2 r9 hc9) (va_cwS 3 hts (lw_S q344 q345 q76 q346) rfl rfl rfl (by decide +kernel) ⟨Nat.le_of_ble_eq_true rfl, Nat.le_of_ble_eq_true rfl⟩) (b_preS hW hp9) rfl rfl hl.1 rfl (lv_room (Nat.le_of_ble_eq_true rfl)) dX0_then_21 ⟨Nat.le_of_ble_eq_true rfl, Nat.le_of_ble_eq_true rfl⟩) hW hp9 (fun _ _ H locs hW => ?_)
      have hW : bW D g A s H locs [vW g adN N, xW g adX (adN 0) (adT 0) iX X, vW g adT T, gW L kd nu aa] := hW
      refine lv_if_ne (tgt := 34) hx hb dX0_then_24 (by decide) (fun c10 => ?_) (fun c10 => ?_)
      · have hf := o_f hf c10
        refine lv_aload_n hx hb dX0_then_34 rfl (lv_at hl 0 rfl) ?_
        obtain ⟨T11, hc11, hf⟩ := o_b1s hf
        have hp11 : List.Perm [vW g adN N, xW g adX (adN 0) (adT 0) iX X, vW g adT T, gW L kd nu aa] ([xW g adX (adN 0) (adT 0) iX X, vW g adN N, vW g adT T, gW L kd nu aa] ++ []) := b_perm [1, 0, 2, 3] [] 4 rfl rfl rfl rfl
        refine b_call0 ⟨rfl, rfl⟩ (va_runV (As := []) (rest := []) ⟨hx, hb, hml, hown, hts⟩ (m_X0_tried l D g H.size adX iX adN adT X N T L kd nu aa T11 hc11) (cwV 0 hts (lw_V q1223 q1225 qs22 q76 q1226) rfl rfl rfl (by decide +kernel) ⟨Nat.le_of_ble_eq_true rfl, Nat.le_of_ble_eq_true rfl⟩) (b_preV (pp := 1) (q := 0) hW hp11 rfl xW_0 rfl) rfl rfl hl.1 rfl (lv_room (Nat.le_of_ble_eq_true rfl)) dX0_then_35 ⟨Nat.le_of_ble_eq_true rfl, Nat.le_of_ble_eq_true rfl⟩) hW hp11 (fun _ _ H locs hW => ?_)
        have hW : bW D g A s H locs [xW g adX (adN 0) (adT 0) iX X, vW g adN N, vW g adT T11, gW L kd nu aa] := hW
        refine lv_astore (lv' := [(4, .ref (adT 0)), (0, .ref (adX 0)), (1, .int x1), (2, .int x2), (3, .int x3)]) hx hb dX0_then_38 hl (by decide) rfl (fun ls hl => ?_)
        refine lv_aload hx hb dX0_then_40 (lv_at hl 0 rfl) ?_
        refine lv_iload_n hx hb dX0_then_42 rfl (lv_at hl 2 rfl) ?_
        refine lv_iload_n hx hb dX0_then_43 rfl (lv_at hl 3 rfl) ?_
        obtain ⟨r12, T13, hc13, hf⟩ := o_b2s hf
        have hp13 : List.Perm [xW g adX (adN 0) (adT 0) iX X, vW g adN N, vW g adT T11, gW L kd nu aa] ([vW g adT T11, gW L kd nu aa] ++ [xW g adX (adN 0) (adT 0) iX X, vW g adN N]) := b_perm [2, 3] [0, 1] 4 rfl rfl rfl rfl
        refine b_call0 ⟨rfl, rfl⟩ (va_runS (As := [.ref (adT 0), .int x1, .int x2]) (rest := []) ⟨hx, hb, hml, hown, hts⟩ (m_X0_takes l D g H.size adT fu T11 L kd nu aa x1 x2 r12 T13 hc13) (va_cwS 3 hts (lw_S q1294 q1295 q76 q1296) rfl rfl rfl (by decide +kernel) ⟨Nat.le_of_ble_eq_true rfl, Nat.le_of_ble_eq_true rfl⟩) (b_preS hW hp13) rfl rfl hl.1 rfl (lv_room (Nat.le_of_ble_eq_true rfl)) dX0_then_44 ⟨Nat.le_of_ble_eq_true rfl, Nat.le_of_ble_eq_true rfl⟩) hW hp13 (fun _ _ H locs hW => ?_)
        have hW : bW D g A s H locs [vW g adT T13, gW L kd nu aa, xW g adX (adN 0) (adT 0) iX X, vW g adN N] := hW
        refine lv_istore (lv' := [(5, .int r12), (4, .ref (adT 0)), (0, .ref (adX 0)), (1, .int x1), (2, .int x2), (3, .int x3)]) hx hb dX0_then_47 hl (by decide) rfl (fun ls hl => ?_)
        refine lv_iload_n hx hb dX0_then_49 rfl (lv_at hl 5 rfl) ?_
        refine lv_if_ne (tgt := 63) hx hb dX0_then_50 (by decide) (fun c14 => ?_) (fun c14 => ?_)
        · have hf := o_f hf c14
          refine lv_iload_n hx hb dX0_then_63 rfl (lv_at hl 5 rfl) ?_
          refine lv_iconst (v := 1) hx hb dX0_then_64 (by decide) ?_
          refine lv_icmp_ne (tgt := 78) hx hb dX0_then_65 (by decide) (fun c15 => ?_) (fun c15 => ?_)
          · have hf := o_f hf c15
            refine lv_iload hx hb dX0_then_78 (lv_at hl 0 rfl) ?_
            cases hf
            exact b_iret hx hb hr hlk hE (b_perms hW (b_ord [2, 3, 0, 1] 4 rfl rfl rfl)) () rfl trivial rfl dX0_then_80
          · have hf := o_t hf c15
            refine lv_aload hx hb dX0_then_68 (lv_at hl 1 rfl) ?_
            refine b_get hx hb hts in_X1 hown hW 0 0 1 3 rfl vW_0 rfl (by decide) ⟨rfl, rfl, rfl⟩ (hts _ q139) vW_g3 dX0_then_70 ?_
            refine lv_iload_n hx hb dX0_then_73 rfl (lv_at hl 4 rfl) ?_
            obtain ⟨h16, hf⟩ := o_cs hf
            refine b_iald hx hb hW 0 4 rfl vW_4 h16 dX0_then_74 ?_
            refine lv_goto (tgt := 80) hx hb dX0_then_75 (by decide) ?_
            cases hf
            exact b_iret hx hb hr hlk hE (b_perms hW (b_ord [2, 3, 0, 1] 4 rfl rfl rfl)) () rfl trivial rfl dX0_then_80
        · have hf := o_t hf c14
          refine lv_aload hx hb dX0_then_53 (lv_at hl 1 rfl) ?_
          refine b_get hx hb hts in_X1 hown hW 0 0 1 0 rfl vW_0 rfl (by decide) ⟨rfl, rfl, rfl⟩ (hts _ q131) vW_g0 dX0_then_55 ?_
          refine lv_iload_n hx hb dX0_then_58 rfl (lv_at hl 4 rfl) ?_
          obtain ⟨h17, hf⟩ := o_cs hf
          refine b_iald hx hb hW 0 1 rfl vW_1 h17 dX0_then_59 ?_
          refine lv_goto (tgt := 80) hx hb dX0_then_60 (by decide) ?_
          cases hf
          exact b_iret hx hb hr hlk hE (b_perms hW (b_ord [2, 3, 0, 1] 4 rfl rfl rfl)) () rfl trivial rfl dX0_then_80
      · have hf := o_t hf c10
        refine lv_aload_n hx hb dX0_then_27 rfl (lv_at hl 0 rfl) ?_
        refine lv_bipush (v := (-2)) hx hb dX0_then_28 (by decide) ?_
        obtain ⟨r18, X19, hc19, hf⟩ := o_b2s hf
        have hp19 : List.Perm [vW g adN N, xW g adX (adN 0) (adT 0) iX X, vW g adT T, gW L kd nu aa] ([xW g adX (adN 0) (adT 0) iX X] ++ [vW g adN N, vW g adT T, gW L kd nu aa]) := b_perm [1] [0, 2, 3] 4 rfl rfl rfl rfl
        refine b_call0 ⟨rfl, rfl⟩ (va_runV (As := [.int (-2)]) (rest := []) ⟨hx, hb, hml, hown, hts⟩ (m_X0_no l D g H.size adX iX adN adT X (-2) r18 X19 hc19) (cwV 1 hts (lw_V q347 q349 qs2 q76 q350) rfl rfl rfl (by decide +kernel) ⟨Nat.le_of_ble_eq_true rfl, Nat.le_of_ble_eq_true rfl⟩) (b_preV (pp := 1) (q := 0) hW hp19 rfl xW_0 rfl) rfl rfl hl.1 rfl (lv_room (Nat.le_of_ble_eq_true rfl)) dX0_then_30 ⟨Nat.le_of_ble_eq_true rfl, Nat.le_of_ble_eq_true rfl⟩) hW hp19 (fun _ _ H locs hW => ?_)
        have hW : bW D g A s H locs [xW g adX (adN 0) (adT 0) iX X19, vW g adN N, vW g adT T, gW L kd nu aa] := hW
        cases hf
        exact b_iret hx hb hr hlk hE hW () rfl trivial rfl dX0_then_33
def f_X0_writtenBy (fu : Nat) (X : BC) (N : BC) (T : BC) (L : List Nat) (kd : Nat → Nat) (nu : Nat → Int32) (aa : Nat → Int32) (x1 : Int32) (x2 : Int32) : Option (Int32 × BC) :=
 o_b1 (f_X0_tried X N T L kd nu aa) fun (T1 : BC) =>
 o_b1 (f_X1_writes fu T1 x2) fun (T2 : BC) =>
 o_b2 (f_X1_years fu T2 L kd nu aa x1 (-1)) fun (r3 : Int32) (T4 : BC) =>
 some (r3, T4)
abbrev rm_X0_writtenBy : Room := { frames := 8, cells := 0, slots := 0, locals := 188 }
set_option maxHeartbeats 4000000 in
set_option maxRecDepth 100000 in
theorem m_X0_writtenBy (l : Launch) (D : va_G) (g : Nat → ClassId) (sz : Nat) (adX : Nat → Nat) (iX : Option Nat) (adN : Nat → Nat) (adT : Nat → Nat) (fu : Nat) (X : BC) (N : BC) (T : BC) (L : List Nat) (kd : Nat → Nat) (nu : Nat → Int32) (aa : Nat → Int32) (x1 : Int32) (x2 : Int32) (rO : Int32) (TO : BC) (hf : f_X0_writtenBy fu X N T L kd nu aa x1 x2 = some (rO, TO)) : bMet (S := Unit) l yX0_writtenBy (ws_ yX0_writtenBy cX0_writtenBy 4 (some .int)) rm_X0_writtenBy D g sz [.ref (adX 0), .int x1, .int x2] [xW g adX (adN 0) (adT 0) iX X, vW g adN N, vW g adT T, gW L kd nu aa] (fun _ => True) (fun _ => some (.int rO)) (fun _ => [xW g adX (adN 0) (adT 0) iX X, vW g adN N, vW g adT TO, gW L kd nu aa]) := by
  refine b_met (by decide) (Nat.le_of_ble_eq_true rfl) ?_
  intro p e s m args below meth c A Q ls hx hb hml hr hlk hown hname hts hE hl hW
  revert hW; generalize s.heap = H; intro hW
  have hl : lv_has ls 4 [(0, .ref (adX 0)), (1, .int x1), (2, .int x2)] := hl
  rw [f_X0_writtenBy] at hf
  refine lv_aload_n hx hb dX0_writtenBy_0 rfl (lv_at hl 0 rfl) ?_
  obtain ⟨T1, hc1, hf⟩ := o_b1s hf
  have hp1 : List.Perm [xW g adX (adN 0) (adT 0) iX X, vW g adN N, vW g adT T, gW L kd nu aa] ([xW g adX (adN 0) (adT 0) iX X, vW g adN N, vW g adT T, gW L kd nu aa] ++ []) := b_perm [0, 1, 2, 3] [] 4 rfl rfl rfl rfl
  refine b_call0 ⟨rfl, rfl⟩ (va_runV (As := []) (rest := []) ⟨hx, hb, hml, hown, hts⟩ (m_X0_tried l D g H.size adX iX adN adT X N T L kd nu aa T1 hc1) (cwV 0 hts (lw_V q1223 q1225 qs22 q76 q1226) rfl rfl rfl (by decide +kernel) ⟨Nat.le_of_ble_eq_true rfl, Nat.le_of_ble_eq_true rfl⟩) (b_preV (pp := 0) (q := 0) hW hp1 rfl xW_0 rfl) rfl rfl hl.1 rfl (lv_room (Nat.le_of_ble_eq_true rfl)) dX0_writtenBy_1 ⟨Nat.le_of_ble_eq_true rfl, Nat.le_of_ble_eq_true rfl⟩) hW hp1 (fun _ _ H locs hW => ?_)
  have hW : bW D g A s H locs [xW g adX (adN 0) (adT 0) iX X, vW g adN N, vW g adT T1, gW L kd nu aa] := hW
  refine lv_astore_n (lv' := [(3, .ref (adT 0)), (0, .ref (adX 0)), (1, .int x1), (2, .int x2)]) hx hb dX0_writtenBy_4 rfl hl (by decide) rfl (fun ls hl => ?_)
  refine lv_aload_n hx hb dX0_writtenBy_5 rfl (lv_at hl 0 rfl) ?_
  refine lv_iload_n hx hb dX0_writtenBy_6 rfl (lv_at hl 3 rfl) ?_
  obtain ⟨T2, hc2, hf⟩ := o_b1s hf
  have hp2 : List.Perm [xW g adX (adN 0) (adT 0) iX X, vW g adN N, vW g adT T1, gW L kd nu aa] ([vW g adT T1] ++ [xW g adX (adN 0) (adT 0) iX X, vW g adN N, gW L kd nu aa]) := b_perm [2] [0, 1, 3] 4 rfl rfl rfl rfl
  refine b_call0 ⟨rfl, rfl⟩ (va_runV (As := [.int x2]) (rest := []) ⟨hx, hb, hml, hown, hts⟩ (m_X1_writes l D g H.size adT fu T1 x2 T2 hc2) (cwV 1 hts (lw_V q685 q686 q687 q77 q688) rfl rfl rfl (by decide +kernel) ⟨Nat.le_of_ble_eq_true rfl, Nat.le_of_ble_eq_true rfl⟩) (b_preV (pp := 2) (q := 0) hW hp2 rfl vW_0 rfl) rfl rfl hl.1 rfl (lv_room (Nat.le_of_ble_eq_true rfl)) dX0_writtenBy_7 ⟨Nat.le_of_ble_eq_true rfl, Nat.le_of_ble_eq_true rfl⟩) hW hp2 (fun _ _ H locs hW => ?_)
  have hW : bW D g A s H locs [vW g adT T2, xW g adX (adN 0) (adT 0) iX X, vW g adN N, gW L kd nu aa] := hW
  refine lv_aload_n hx hb dX0_writtenBy_10 rfl (lv_at hl 0 rfl) ?_
  refine lv_iload_n hx hb dX0_writtenBy_11 rfl (lv_at hl 2 rfl) ?_
  refine lv_iconst (v := (-1)) hx hb dX0_writtenBy_12 (by decide) ?_
  obtain ⟨r3, T4, hc4, hf⟩ := o_b2s hf
  have hp4 : List.Perm [vW g adT T2, xW g adX (adN 0) (adT 0) iX X, vW g adN N, gW L kd nu aa] ([vW g adT T2, gW L kd nu aa] ++ [xW g adX (adN 0) (adT 0) iX X, vW g adN N]) := b_perm [0, 3] [1, 2] 4 rfl rfl rfl rfl
  refine b_call0 ⟨rfl, rfl⟩ (va_runV (As := [.int x1, .int (-1)]) (rest := []) ⟨hx, hb, hml, hown, hts⟩ (m_X1_years l D g H.size adT fu T2 L kd nu aa x1 (-1) r3 T4 hc4) (cwV 2 hts (lw_V q1274 q1275 q1276 q77 q1277) rfl rfl rfl (by decide +kernel) ⟨Nat.le_of_ble_eq_true rfl, Nat.le_of_ble_eq_true rfl⟩) (b_preV (pp := 0) (q := 0) hW hp4 rfl vW_0 rfl) rfl rfl hl.1 rfl (lv_room (Nat.le_of_ble_eq_true rfl)) dX0_writtenBy_13 ⟨Nat.le_of_ble_eq_true rfl, Nat.le_of_ble_eq_true rfl⟩) hW hp4 (fun _ _ H locs hW => ?_)
  have hW : bW D g A s H locs [vW g adT T4, gW L kd nu aa, xW g adX (adN 0) (adT 0) iX X, vW g adN N] := hW
  cases hf
  exact b_iret hx hb hr hlk hE (b_perms hW (b_ord [2, 3, 0, 1] 4 rfl rfl rfl)) () rfl trivial rfl dX0_writtenBy_16
def f_X0_written (fu : Nat) (X : BC) (N : BC) (T : BC) (L : List Nat) (kd : Nat → Nat) (nu : Nat → Int32) (aa : Nat → Int32) (x1 : Int32) (x2 : Int32) : Option (Int32 × BC × BC) :=
 o_b1 (f_X0_isYears x1) fun (r1 : Int32) =>
 (if r1 = 0 then
 o_b2 (f_X0_noLow X (-2)) fun (r3 : Int32) (X4 : BC) =>
 some (r3, X4, T)
 else
 o_b1 (f_X0_allInns X N) fun (r5 : Int32) =>
 o_b1 (f_X0_isIn x2 0 r5) fun (r6 : Int32) =>
 (if r6 = 0 then
 o_b2 (f_X0_noLow X (-2)) fun (r8 : Int32) (X9 : BC) =>
 some (r8, X9, T)
 else
 o_b2 (f_X0_writtenBy fu X N T L kd nu aa x1 x2) fun (r10 : Int32) (T11 : BC) =>
 some (r10, X, T11)))
abbrev rm_X0_written : Room := { frames := 9, cells := 0, slots := 0, locals := 211 }
set_option maxHeartbeats 4000000 in
set_option maxRecDepth 100000 in
theorem m_X0_written (l : Launch) (D : va_G) (g : Nat → ClassId) (sz : Nat) (adX : Nat → Nat) (iX : Option Nat) (adN : Nat → Nat) (adT : Nat → Nat) (fu : Nat) (X : BC) (N : BC) (T : BC) (L : List Nat) (kd : Nat → Nat) (nu : Nat → Int32) (aa : Nat → Int32) (x1 : Int32) (x2 : Int32) (rO : Int32) (XO : BC) (TO : BC) (hf : f_X0_written fu X N T L kd nu aa x1 x2 = some (rO, XO, TO)) : bMet (S := Unit) l yX0_written (ws_ yX0_written cX0_written 3 (some .int)) rm_X0_written D g sz [.ref (adX 0), .int x1, .int x2] [xW g adX (adN 0) (adT 0) iX X, vW g adN N, vW g adT T, gW L kd nu aa] (fun _ => True) (fun _ => some (.int rO)) (fun _ => [xW g adX (adN 0) (adT 0) iX XO, vW g adN N, vW g adT TO, gW L kd nu aa]) := by
  refine b_met (by decide) (Nat.le_of_ble_eq_true rfl) ?_
  intro p e s m args below meth c A Q ls hx hb hml hr hlk hown hname hts hE hl hW
  revert hW; generalize s.heap = H; intro hW
  have hl : lv_has ls 3 [(0, .ref (adX 0)), (1, .int x1), (2, .int x2)] := hl
  rw [f_X0_written] at hf
  refine lv_iload_n hx hb dX0_written_0 rfl (lv_at hl 1 rfl) ?_
  obtain ⟨r1, hc1, hf⟩ := o_b1s hf
  have hp1 : List.Perm [xW g adX (adN 0) (adT 0) iX X, vW g adN N, vW g adT T, gW L kd nu aa] ([] ++ [xW g adX (adN 0) (adT 0) iX X, vW g adN N, vW g adT T, gW L kd nu aa]) := b_perm [] [0, 1, 2, 3] 4 rfl rfl rfl rfl
  refine b_call0 ⟨rfl, rfl⟩ (va_runS (As := [.int x1]) (rest := []) ⟨hx, hb, hml, hown, hts⟩ (m_X0_isYears l D g H.size x1 r1 hc1) (va_cwS 1 hts (lw_S q1271 q1272 q76 q1273) rfl rfl rfl (by decide +kernel) ⟨Nat.le_of_ble_eq_true rfl, Nat.le_of_ble_eq_true rfl⟩) (b_preS hW hp1) rfl rfl hl.1 rfl (lv_room (Nat.le_of_ble_eq_true rfl)) dX0_written_1 ⟨Nat.le_of_ble_eq_true rfl, Nat.le_of_ble_eq_true rfl⟩) hW hp1 (fun _ _ H locs hW => ?_)
  have hW : bW D g A s H locs [xW g adX (adN 0) (adT 0) iX X, vW g adN N, vW g adT T, gW L kd nu aa] := hW
  refine lv_if_eq (tgt := 28) hx hb dX0_written_4 (by decide) (fun c2 => ?_) (fun c2 => ?_)
  · have hf := o_t hf c2
    refine lv_aload_n hx hb dX0_written_28 rfl (lv_at hl 0 rfl) ?_
    refine lv_bipush (v := (-2)) hx hb dX0_written_29 (by decide) ?_
    obtain ⟨r3, X4, hc4, hf⟩ := o_b2s hf
    have hp4 : List.Perm [xW g adX (adN 0) (adT 0) iX X, vW g adN N, vW g adT T, gW L kd nu aa] ([xW g adX (adN 0) (adT 0) iX X] ++ [vW g adN N, vW g adT T, gW L kd nu aa]) := b_perm [0] [1, 2, 3] 4 rfl rfl rfl rfl
    refine b_call0 ⟨rfl, rfl⟩ (va_runV (As := [.int (-2)]) (rest := []) ⟨hx, hb, hml, hown, hts⟩ (m_X0_noLow l D g H.size adX iX adN adT X (-2) r3 X4 hc4) (cwV 1 hts (lw_V q1126 q1128 qs18 q76 q1129) rfl rfl rfl (by decide +kernel) ⟨Nat.le_of_ble_eq_true rfl, Nat.le_of_ble_eq_true rfl⟩) (b_preV (pp := 0) (q := 0) hW hp4 rfl xW_0 rfl) rfl rfl hl.1 rfl (lv_room (Nat.le_of_ble_eq_true rfl)) dX0_written_31 ⟨Nat.le_of_ble_eq_true rfl, Nat.le_of_ble_eq_true rfl⟩) hW hp4 (fun _ _ H locs hW => ?_)
    have hW : bW D g A s H locs [xW g adX (adN 0) (adT 0) iX X4, vW g adN N, vW g adT T, gW L kd nu aa] := hW
    cases hf
    exact b_iret hx hb hr hlk hE hW () rfl trivial rfl dX0_written_34
  · have hf := o_f hf c2
    refine lv_iload_n hx hb dX0_written_7 rfl (lv_at hl 2 rfl) ?_
    refine lv_iconst (v := 0) hx hb dX0_written_8 (by decide) ?_
    refine lv_aload_n hx hb dX0_written_9 rfl (lv_at hl 0 rfl) ?_
    obtain ⟨r5, hc5, hf⟩ := o_b1s hf
    have hp5 : List.Perm [xW g adX (adN 0) (adT 0) iX X, vW g adN N, vW g adT T, gW L kd nu aa] ([xW g adX (adN 0) (adT 0) iX X, vW g adN N] ++ [vW g adT T, gW L kd nu aa]) := b_perm [0, 1] [2, 3] 4 rfl rfl rfl rfl
    refine b_call0 ⟨rfl, rfl⟩ (va_runV (As := []) (rest := [.int 0, .int x2]) ⟨hx, hb, hml, hown, hts⟩ (m_X0_allInns l D g H.size adX iX adN adT X N r5 hc5) (cwV 0 hts (lw_V q512 q514 qs6 q76 q515) rfl rfl rfl (by decide +kernel) ⟨Nat.le_of_ble_eq_true rfl, Nat.le_of_ble_eq_true rfl⟩) (b_preV (pp := 0) (q := 0) hW hp5 rfl xW_0 rfl) rfl rfl hl.1 rfl (lv_room (Nat.le_of_ble_eq_true rfl)) dX0_written_10 ⟨Nat.le_of_ble_eq_true rfl, Nat.le_of_ble_eq_true rfl⟩) hW hp5 (fun _ _ H locs hW => ?_)
    have hW : bW D g A s H locs [xW g adX (adN 0) (adT 0) iX X, vW g adN N, vW g adT T, gW L kd nu aa] := hW
    obtain ⟨r6, hc6, hf⟩ := o_b1s hf
    have hp6 : List.Perm [xW g adX (adN 0) (adT 0) iX X, vW g adN N, vW g adT T, gW L kd nu aa] ([] ++ [xW g adX (adN 0) (adT 0) iX X, vW g adN N, vW g adT T, gW L kd nu aa]) := b_perm [] [0, 1, 2, 3] 4 rfl rfl rfl rfl
    refine b_call0 ⟨rfl, rfl⟩ (va_runS (As := [.int x2, .int 0, .int r5]) (rest := []) ⟨hx, hb, hml, hown, hts⟩ (m_X0_isIn l D g H.size x2 0 r5 r6 hc6) (va_cwS 3 hts (lw_S q344 q345 q76 q346) rfl rfl rfl (by decide +kernel) ⟨Nat.le_of_ble_eq_true rfl, Nat.le_of_ble_eq_true rfl⟩) (b_preS hW hp6) rfl rfl hl.1 rfl (lv_room (Nat.le_of_ble_eq_true rfl)) dX0_written_13 ⟨Nat.le_of_ble_eq_true rfl, Nat.le_of_ble_eq_true rfl⟩) hW hp6 (fun _ _ H locs hW => ?_)
    have hW : bW D g A s H locs [xW g adX (adN 0) (adT 0) iX X, vW g adN N, vW g adT T, gW L kd nu aa] := hW
    refine lv_if_eq (tgt := 28) hx hb dX0_written_16 (by decide) (fun c7 => ?_) (fun c7 => ?_)
    · have hf := o_t hf c7
      refine lv_aload_n hx hb dX0_written_28 rfl (lv_at hl 0 rfl) ?_
      refine lv_bipush (v := (-2)) hx hb dX0_written_29 (by decide) ?_
      obtain ⟨r8, X9, hc9, hf⟩ := o_b2s hf
      have hp9 : List.Perm [xW g adX (adN 0) (adT 0) iX X, vW g adN N, vW g adT T, gW L kd nu aa] ([xW g adX (adN 0) (adT 0) iX X] ++ [vW g adN N, vW g adT T, gW L kd nu aa]) := b_perm [0] [1, 2, 3] 4 rfl rfl rfl rfl
      refine b_call0 ⟨rfl, rfl⟩ (va_runV (As := [.int (-2)]) (rest := []) ⟨hx, hb, hml, hown, hts⟩ (m_X0_noLow l D g H.size adX iX adN adT X (-2) r8 X9 hc9) (cwV 1 hts (lw_V q1126 q1128 qs18 q76 q1129) rfl rfl rfl (by decide +kernel) ⟨Nat.le_of_ble_eq_true rfl, Nat.le_of_ble_eq_true rfl⟩) (b_preV (pp := 0) (q := 0) hW hp9 rfl xW_0 rfl) rfl rfl hl.1 rfl (lv_room (Nat.le_of_ble_eq_true rfl)) dX0_written_31 ⟨Nat.le_of_ble_eq_true rfl, Nat.le_of_ble_eq_true rfl⟩) hW hp9 (fun _ _ H locs hW => ?_)
      have hW : bW D g A s H locs [xW g adX (adN 0) (adT 0) iX X9, vW g adN N, vW g adT T, gW L kd nu aa] := hW
      cases hf
      exact b_iret hx hb hr hlk hE hW () rfl trivial rfl dX0_written_34
    · have hf := o_f hf c7
      refine lv_aload_n hx hb dX0_written_19 rfl (lv_at hl 0 rfl) ?_
      refine lv_iload_n hx hb dX0_written_20 rfl (lv_at hl 1 rfl) ?_
      refine lv_iload_n hx hb dX0_written_21 rfl (lv_at hl 2 rfl) ?_
      obtain ⟨r10, T11, hc11, hf⟩ := o_b2s hf
      have hp11 : List.Perm [xW g adX (adN 0) (adT 0) iX X, vW g adN N, vW g adT T, gW L kd nu aa] ([xW g adX (adN 0) (adT 0) iX X, vW g adN N, vW g adT T, gW L kd nu aa] ++ []) := b_perm [0, 1, 2, 3] [] 4 rfl rfl rfl rfl
      refine b_call0 ⟨rfl, rfl⟩ (va_runV (As := [.int x1, .int x2]) (rest := []) ⟨hx, hb, hml, hown, hts⟩ (m_X0_writtenBy l D g H.size adX iX adN adT fu X N T L kd nu aa x1 x2 r10 T11 hc11) (cwV 2 hts (lw_V q1302 q1304 qs26 q76 q1305) rfl rfl rfl (by decide +kernel) ⟨Nat.le_of_ble_eq_true rfl, Nat.le_of_ble_eq_true rfl⟩) (b_preV (pp := 0) (q := 0) hW hp11 rfl xW_0 rfl) rfl rfl hl.1 rfl (lv_room (Nat.le_of_ble_eq_true rfl)) dX0_written_22 ⟨Nat.le_of_ble_eq_true rfl, Nat.le_of_ble_eq_true rfl⟩) hW hp11 (fun _ _ H locs hW => ?_)
      have hW : bW D g A s H locs [xW g adX (adN 0) (adT 0) iX X, vW g adN N, vW g adT T11, gW L kd nu aa] := hW
      refine lv_goto (tgt := 34) hx hb dX0_written_25 (by decide) ?_
      cases hf
      exact b_iret hx hb hr hlk hE hW () rfl trivial rfl dX0_written_34
def f_X0_bookOf_L8 (X : BC) (N : BC) (L : List Nat) (kd : Nat → Nat) (nu : Nat → Int32) (aa : Nat → Int32) (x1 : Int32) (x2 : Int32) (fu : Nat) (rec1 : (Int32 × Int32 × Int32 × BC) → Option (Int32 × BC)) : Int32 × Int32 × Int32 × BC → Option (Int32 × BC)
  | (v2, v3, v4, T5) =>
    o_b1 (f_X0_allInns X N) fun (r6 : Int32) =>
     (if r6 < v4 then
     some (v2, T5)
     else
     o_b1 (f_J11_bitCount v4) fun (r8 : Int32) =>
     (if r8 ≤ x2 then
     o_b2 (f_X0_writtenBy fu X N T5 L kd nu aa x1 v4) fun (r10 : Int32) (T11 : BC) =>
     (if v2 = (-1) then
     o_lt (v4 + 1) fun (v13 : Int32) =>
     rec1 (v4, r10, v13, T11)
     else
     (if r10 ≤ v3 then
     o_lt (v4 + 1) fun (v15 : Int32) =>
     rec1 (v2, v3, v15, T11)
     else
     o_lt (v4 + 1) fun (v16 : Int32) =>
     rec1 (v4, r10, v16, T11)))
     else
     o_lt (v4 + 1) fun (v17 : Int32) =>
     rec1 (v2, v3, v17, T5)))
def f_X0_bookOf (fu : Nat) (X : BC) (N : BC) (T : BC) (L : List Nat) (kd : Nat → Nat) (nu : Nat → Int32) (aa : Nat → Int32) (x1 : Int32) (x2 : Int32) : Option (Int32 × BC) :=
 o_lp (f_X0_bookOf_L8 X N L kd nu aa x1 x2 fu) fu ((-1), 0, 0, T)
abbrev rm_X0_bookOf : Room := { frames := 9, cells := 0, slots := 0, locals := 211 }
set_option maxHeartbeats 4000000 in
set_option maxRecDepth 100000 in
theorem m_X0_bookOf (l : Launch) (D : va_G) (g : Nat → ClassId) (sz : Nat) (adX : Nat → Nat) (iX : Option Nat) (adN : Nat → Nat) (adT : Nat → Nat) (fu : Nat) (X : BC) (N : BC) (T : BC) (L : List Nat) (kd : Nat → Nat) (nu : Nat → Int32) (aa : Nat → Int32) (x1 : Int32) (x2 : Int32) (rO : Int32) (TO : BC) (hf : f_X0_bookOf fu X N T L kd nu aa x1 x2 = some (rO, TO)) : bMet (S := Unit) l yX0_bookOf (ws_ yX0_bookOf cX0_bookOf 7 (some .int)) rm_X0_bookOf D g sz [.ref (adX 0), .int x1, .int x2] [xW g adX (adN 0) (adT 0) iX X, vW g adN N, vW g adT T, gW L kd nu aa] (fun _ => True) (fun _ => some (.int rO)) (fun _ => [xW g adX (adN 0) (adT 0) iX X, vW g adN N, vW g adT TO, gW L kd nu aa]) := by
  refine b_met (by decide) (Nat.le_of_ble_eq_true rfl) ?_
  intro p e s m args below meth c A Q ls hx hb hml hr hlk hown hname hts hE hl hW
  revert hW; generalize s.heap = H; intro hW
  have hl : lv_has ls 7 [(0, .ref (adX 0)), (1, .int x1), (2, .int x2)] := hl
  rw [f_X0_bookOf] at hf
  refine lv_iconst (v := (-1)) hx hb dX0_bookOf_0 (by decide) ?_
  refine lv_istore_n (lv' := [(3, .int (-1)), (0, .ref (adX 0)), (1, .int x1), (2, .int x2)]) hx hb dX0_bookOf_1 rfl hl (by decide) rfl (fun ls hl => ?_)
  refine lv_iconst (v := 0) hx hb dX0_bookOf_2 (by decide) ?_
  refine lv_istore (lv' := [(4, .int 0), (3, .int (-1)), (0, .ref (adX 0)), (1, .int x1), (2, .int x2)]) hx hb dX0_bookOf_3 hl (by decide) rfl (fun ls hl => ?_)
  refine lv_iconst (v := 0) hx hb dX0_bookOf_5 (by decide) ?_
  refine lv_istore (lv' := [(5, .int 0), (4, .int 0), (3, .int (-1)), (0, .ref (adX 0)), (1, .int x1), (2, .int x2)]) hx hb dX0_bookOf_6 hl (by decide) rfl (fun ls hl => ?_)
  obtain ⟨stp1, est1, hf⟩ := o_ln hf
  have L1 : ∀ (n : Nat) (v2 : Int32) (v3 : Int32) (v4 : Int32) (T5 : BC) (H : Heap) (locs : List Loc) (ls : Array Slot), bW D g A s H locs [xW g adX (adN 0) (adT 0) iX X, vW g adN N, vW g adT T5, gW L kd nu aa] → lv_has ls 7 [(5, .int v4), (4, .int v3), (3, .int v2), (0, .ref (adX 0)), (1, .int x1), (2, .int x2)] → o_lp stp1 n (v2, v3, v4, T5) = some (rO, TO) → W p l e rm_X0_bookOf s m args below meth c H locs 0 0 Q (F0 m 8 ls []) := by
    intro n1
    induction n1 with
    | zero => intro v2 v3 v4 T5 H locs ls hW hl hf; exact (o_lz hf).elim
    | succ n1 ih1 =>
      intro v2 v3 v4 T5 H locs ls hW hl hf
      have hf := o_lu est1 hf
      rw [f_X0_bookOf_L8] at hf
      refine lv_iload hx hb dX0_bookOf_8 (lv_at hl 0 rfl) ?_
      refine lv_aload_n hx hb dX0_bookOf_10 rfl (lv_at hl 3 rfl) ?_
      obtain ⟨r6, hc6, hf⟩ := o_b1s hf
      have hp6 : List.Perm [xW g adX (adN 0) (adT 0) iX X, vW g adN N, vW g adT T5, gW L kd nu aa] ([xW g adX (adN 0) (adT 0) iX X, vW g adN N] ++ [vW g adT T5, gW L kd nu aa]) := b_perm [0, 1] [2, 3] 4 rfl rfl rfl rfl
      refine b_call0 ⟨rfl, rfl⟩ (va_runV (As := []) (rest := [.int v4]) ⟨hx, hb, hml, hown, hts⟩ (m_X0_allInns l D g H.size adX iX adN adT X N r6 hc6) (cwV 0 hts (lw_V q512 q514 qs6 q76 q515) rfl rfl rfl (by decide +kernel) ⟨Nat.le_of_ble_eq_true rfl, Nat.le_of_ble_eq_true rfl⟩) (b_preV (pp := 0) (q := 0) hW hp6 rfl xW_0 rfl) rfl rfl hl.1 rfl (lv_room (Nat.le_of_ble_eq_true rfl)) dX0_bookOf_11 ⟨Nat.le_of_ble_eq_true rfl, Nat.le_of_ble_eq_true rfl⟩) hW hp6 (fun _ _ H locs hW => ?_)
      have hW : bW D g A s H locs [xW g adX (adN 0) (adT 0) iX X, vW g adN N, vW g adT T5, gW L kd nu aa] := hW
      refine lv_icmp_gt (tgt := 63) hx hb dX0_bookOf_14 (by decide) (fun c7 => ?_) (fun c7 => ?_)
      · have hf := o_t hf c7
        refine lv_iload_n hx hb dX0_bookOf_63 rfl (lv_at hl 2 rfl) ?_
        cases hf
        exact b_iret hx hb hr hlk hE hW () rfl trivial rfl dX0_bookOf_64
      · have hf := o_f hf c7
        refine lv_iload hx hb dX0_bookOf_17 (lv_at hl 0 rfl) ?_
        obtain ⟨r8, hc8, hf⟩ := o_b1s hf
        have hp8 : List.Perm [xW g adX (adN 0) (adT 0) iX X, vW g adN N, vW g adT T5, gW L kd nu aa] ([] ++ [xW g adX (adN 0) (adT 0) iX X, vW g adN N, vW g adT T5, gW L kd nu aa]) := b_perm [] [0, 1, 2, 3] 4 rfl rfl rfl rfl
        refine b_call0 ⟨rfl, rfl⟩ (va_runS (As := [.int v4]) (rest := []) ⟨hx, hb, hml, hown, hts⟩ (m_J11_bitCount l D g H.size v4 r8 hc8) (va_cwS 1 hts (lw_S q690 q691 q99 q692) rfl rfl rfl (by decide +kernel) ⟨Nat.le_of_ble_eq_true rfl, Nat.le_of_ble_eq_true rfl⟩) (b_preS hW hp8) rfl rfl hl.1 rfl (lv_room (Nat.le_of_ble_eq_true rfl)) dX0_bookOf_19 ⟨Nat.le_of_ble_eq_true rfl, Nat.le_of_ble_eq_true rfl⟩) hW hp8 (fun _ _ H locs hW => ?_)
        have hW : bW D g A s H locs [xW g adX (adN 0) (adT 0) iX X, vW g adN N, vW g adT T5, gW L kd nu aa] := hW
        refine lv_iload_n hx hb dX0_bookOf_22 rfl (lv_at hl 5 rfl) ?_
        refine lv_icmp_le (tgt := 29) hx hb dX0_bookOf_23 (by decide) (fun c9 => ?_) (fun c9 => ?_)
        · have hf := o_t hf c9
          refine lv_aload_n hx hb dX0_bookOf_29 rfl (lv_at hl 3 rfl) ?_
          refine lv_iload_n hx hb dX0_bookOf_30 rfl (lv_at hl 4 rfl) ?_
          refine lv_iload hx hb dX0_bookOf_31 (lv_at hl 0 rfl) ?_
          obtain ⟨r10, T11, hc11, hf⟩ := o_b2s hf
          have hp11 : List.Perm [xW g adX (adN 0) (adT 0) iX X, vW g adN N, vW g adT T5, gW L kd nu aa] ([xW g adX (adN 0) (adT 0) iX X, vW g adN N, vW g adT T5, gW L kd nu aa] ++ []) := b_perm [0, 1, 2, 3] [] 4 rfl rfl rfl rfl
          refine b_call0 ⟨rfl, rfl⟩ (va_runV (As := [.int x1, .int v4]) (rest := []) ⟨hx, hb, hml, hown, hts⟩ (m_X0_writtenBy l D g H.size adX iX adN adT fu X N T5 L kd nu aa x1 v4 r10 T11 hc11) (cwV 2 hts (lw_V q1302 q1304 qs26 q76 q1305) rfl rfl rfl (by decide +kernel) ⟨Nat.le_of_ble_eq_true rfl, Nat.le_of_ble_eq_true rfl⟩) (b_preV (pp := 0) (q := 0) hW hp11 rfl xW_0 rfl) rfl rfl hl.1 rfl (lv_room (Nat.le_of_ble_eq_true rfl)) dX0_bookOf_33 ⟨Nat.le_of_ble_eq_true rfl, Nat.le_of_ble_eq_true rfl⟩) hW hp11 (fun _ _ H locs hW => ?_)
          have hW : bW D g A s H locs [xW g adX (adN 0) (adT 0) iX X, vW g adN N, vW g adT T11, gW L kd nu aa] := hW
          refine lv_istore (lv' := [(6, .int r10), (5, .int v4), (4, .int v3), (3, .int v2), (0, .ref (adX 0)), (1, .int x1), (2, .int x2)]) hx hb dX0_bookOf_36 hl (by decide) rfl (fun ls hl => ?_)
          refine lv_iload_n hx hb dX0_bookOf_38 rfl (lv_at hl 3 rfl) ?_
          refine lv_iconst (v := (-1)) hx hb dX0_bookOf_39 (by decide) ?_
          refine lv_icmp_eq (tgt := 50) hx hb dX0_bookOf_40 (by decide) (fun c12 => ?_) (fun c12 => ?_)
          · have hf := o_t hf c12
            refine lv_iload hx hb dX0_bookOf_50 (lv_at hl 1 rfl) ?_
            refine lv_istore_n (lv' := [(3, .int v4), (6, .int r10), (5, .int v4), (4, .int v3), (0, .ref (adX 0)), (1, .int x1), (2, .int x2)]) hx hb dX0_bookOf_52 rfl hl (by decide) rfl (fun ls hl => ?_)
            refine lv_iload hx hb dX0_bookOf_53 (lv_at hl 1 rfl) ?_
            refine lv_istore (lv' := [(4, .int r10), (3, .int v4), (6, .int r10), (5, .int v4), (0, .ref (adX 0)), (1, .int x1), (2, .int x2)]) hx hb dX0_bookOf_55 hl (by decide) rfl (fun ls hl => ?_)
            obtain ⟨v13, ev13, hf⟩ := o_ls hf
            refine lv_iinc (v := v13) (lv' := [(5, .int v13), (4, .int r10), (3, .int v4), (6, .int r10), (0, .ref (adX 0)), (1, .int x1), (2, .int x2)]) hx hb dX0_bookOf_57 hl (k := 3) rfl ev13 (by decide) rfl (fun ls hl => ?_)
            refine lv_goto (tgt := 8) hx hb dX0_bookOf_60 (by decide) ?_
            exact ih1 _ _ _ _ _ _ _ hW (lv_sub hl [0, 1, 2, 4, 5, 6] rfl) hf
          · have hf := o_f hf c12
            refine lv_iload hx hb dX0_bookOf_43 (lv_at hl 0 rfl) ?_
            refine lv_iload hx hb dX0_bookOf_45 (lv_at hl 2 rfl) ?_
            refine lv_icmp_le (tgt := 57) hx hb dX0_bookOf_47 (by decide) (fun c14 => ?_) (fun c14 => ?_)
            · have hf := o_t hf c14
              obtain ⟨v15, ev15, hf⟩ := o_ls hf
              refine lv_iinc (v := v15) (lv' := [(5, .int v15), (6, .int r10), (4, .int v3), (3, .int v2), (0, .ref (adX 0)), (1, .int x1), (2, .int x2)]) hx hb dX0_bookOf_57 hl (k := 1) rfl ev15 (by decide) rfl (fun ls hl => ?_)
              refine lv_goto (tgt := 8) hx hb dX0_bookOf_60 (by decide) ?_
              exact ih1 _ _ _ _ _ _ _ hW (lv_sub hl [0, 2, 3, 4, 5, 6] rfl) hf
            · have hf := o_f hf c14
              refine lv_iload hx hb dX0_bookOf_50 (lv_at hl 1 rfl) ?_
              refine lv_istore_n (lv' := [(3, .int v4), (6, .int r10), (5, .int v4), (4, .int v3), (0, .ref (adX 0)), (1, .int x1), (2, .int x2)]) hx hb dX0_bookOf_52 rfl hl (by decide) rfl (fun ls hl => ?_)
              refine lv_iload hx hb dX0_bookOf_53 (lv_at hl 1 rfl) ?_
              refine lv_istore (lv' := [(4, .int r10), (3, .int v4), (6, .int r10), (5, .int v4), (0, .ref (adX 0)), (1, .int x1), (2, .int x2)]) hx hb dX0_bookOf_55 hl (by decide) rfl (fun ls hl => ?_)
              obtain ⟨v16, ev16, hf⟩ := o_ls hf
              refine lv_iinc (v := v16) (lv' := [(5, .int v16), (4, .int r10), (3, .int v4), (6, .int r10), (0, .ref (adX 0)), (1, .int x1), (2, .int x2)]) hx hb dX0_bookOf_57 hl (k := 3) rfl ev16 (by decide) rfl (fun ls hl => ?_)
              refine lv_goto (tgt := 8) hx hb dX0_bookOf_60 (by decide) ?_
              exact ih1 _ _ _ _ _ _ _ hW (lv_sub hl [0, 1, 2, 4, 5, 6] rfl) hf
        · have hf := o_f hf c9
          refine lv_goto (tgt := 57) hx hb dX0_bookOf_26 (by decide) ?_
          obtain ⟨v17, ev17, hf⟩ := o_ls hf
          refine lv_iinc (v := v17) (lv' := [(5, .int v17), (4, .int v3), (3, .int v2), (0, .ref (adX 0)), (1, .int x1), (2, .int x2)]) hx hb dX0_bookOf_57 hl (k := 0) rfl ev17 (by decide) rfl (fun ls hl => ?_)
          refine lv_goto (tgt := 8) hx hb dX0_bookOf_60 (by decide) ?_
          exact ih1 _ _ _ _ _ _ _ hW (lv_sub hl [0, 1, 2, 3, 4, 5] rfl) hf
  exact L1 _ _ _ _ _ _ _ _ hW (lv_sub hl [0, 1, 2, 3, 4, 5] rfl) hf
def f_X0_book (fu : Nat) (X : BC) (N : BC) (T : BC) (L : List Nat) (kd : Nat → Nat) (nu : Nat → Int32) (aa : Nat → Int32) (x1 : Int32) (x2 : Int32) : Option (Int32 × BC × BC) :=
 o_b1 (f_X0_isYears x1) fun (r1 : Int32) =>
 (if r1 = 0 then
 o_b2 (f_X0_no X (-2)) fun (r3 : Int32) (X4 : BC) =>
 some (r3, X4, T)
 else
 o_b1 (f_X0_isIn x2 0 6) fun (r5 : Int32) =>
 (if r5 = 0 then
 o_b2 (f_X0_no X (-2)) fun (r7 : Int32) (X8 : BC) =>
 some (r7, X8, T)
 else
 o_b2 (f_X0_bookOf fu X N T L kd nu aa x1 x2) fun (r9 : Int32) (T10 : BC) =>
 some (r9, X, T10)))
abbrev rm_X0_book : Room := { frames := 10, cells := 0, slots := 0, locals := 237 }
set_option maxHeartbeats 4000000 in
set_option maxRecDepth 100000 in
theorem m_X0_book (l : Launch) (D : va_G) (g : Nat → ClassId) (sz : Nat) (adX : Nat → Nat) (iX : Option Nat) (adN : Nat → Nat) (adT : Nat → Nat) (fu : Nat) (X : BC) (N : BC) (T : BC) (L : List Nat) (kd : Nat → Nat) (nu : Nat → Int32) (aa : Nat → Int32) (x1 : Int32) (x2 : Int32) (rO : Int32) (XO : BC) (TO : BC) (hf : f_X0_book fu X N T L kd nu aa x1 x2 = some (rO, XO, TO)) : bMet (S := Unit) l yX0_book (ws_ yX0_book cX0_book 3 (some .int)) rm_X0_book D g sz [.ref (adX 0), .int x1, .int x2] [xW g adX (adN 0) (adT 0) iX X, vW g adN N, vW g adT T, gW L kd nu aa] (fun _ => True) (fun _ => some (.int rO)) (fun _ => [xW g adX (adN 0) (adT 0) iX XO, vW g adN N, vW g adT TO, gW L kd nu aa]) := by
  refine b_met (by decide) (Nat.le_of_ble_eq_true rfl) ?_
  intro p e s m args below meth c A Q ls hx hb hml hr hlk hown hname hts hE hl hW
  revert hW; generalize s.heap = H; intro hW
  have hl : lv_has ls 3 [(0, .ref (adX 0)), (1, .int x1), (2, .int x2)] := hl
  rw [f_X0_book] at hf
  refine lv_iload_n hx hb dX0_book_0 rfl (lv_at hl 1 rfl) ?_
  obtain ⟨r1, hc1, hf⟩ := o_b1s hf
  have hp1 : List.Perm [xW g adX (adN 0) (adT 0) iX X, vW g adN N, vW g adT T, gW L kd nu aa] ([] ++ [xW g adX (adN 0) (adT 0) iX X, vW g adN N, vW g adT T, gW L kd nu aa]) := b_perm [] [0, 1, 2, 3] 4 rfl rfl rfl rfl
  refine b_call0 ⟨rfl, rfl⟩ (va_runS (As := [.int x1]) (rest := []) ⟨hx, hb, hml, hown, hts⟩ (m_X0_isYears l D g H.size x1 r1 hc1) (va_cwS 1 hts (lw_S q1271 q1272 q76 q1273) rfl rfl rfl (by decide +kernel) ⟨Nat.le_of_ble_eq_true rfl, Nat.le_of_ble_eq_true rfl⟩) (b_preS hW hp1) rfl rfl hl.1 rfl (lv_room (Nat.le_of_ble_eq_true rfl)) dX0_book_1 ⟨Nat.le_of_ble_eq_true rfl, Nat.le_of_ble_eq_true rfl⟩) hW hp1 (fun _ _ H locs hW => ?_)
  have hW : bW D g A s H locs [xW g adX (adN 0) (adT 0) iX X, vW g adN N, vW g adT T, gW L kd nu aa] := hW
  refine lv_if_eq (tgt := 26) hx hb dX0_book_4 (by decide) (fun c2 => ?_) (fun c2 => ?_)
  · have hf := o_t hf c2
    refine lv_aload_n hx hb dX0_book_26 rfl (lv_at hl 0 rfl) ?_
    refine lv_bipush (v := (-2)) hx hb dX0_book_27 (by decide) ?_
    obtain ⟨r3, X4, hc4, hf⟩ := o_b2s hf
    have hp4 : List.Perm [xW g adX (adN 0) (adT 0) iX X, vW g adN N, vW g adT T, gW L kd nu aa] ([xW g adX (adN 0) (adT 0) iX X] ++ [vW g adN N, vW g adT T, gW L kd nu aa]) := b_perm [0] [1, 2, 3] 4 rfl rfl rfl rfl
    refine b_call0 ⟨rfl, rfl⟩ (va_runV (As := [.int (-2)]) (rest := []) ⟨hx, hb, hml, hown, hts⟩ (m_X0_no l D g H.size adX iX adN adT X (-2) r3 X4 hc4) (cwV 1 hts (lw_V q347 q349 qs2 q76 q350) rfl rfl rfl (by decide +kernel) ⟨Nat.le_of_ble_eq_true rfl, Nat.le_of_ble_eq_true rfl⟩) (b_preV (pp := 0) (q := 0) hW hp4 rfl xW_0 rfl) rfl rfl hl.1 rfl (lv_room (Nat.le_of_ble_eq_true rfl)) dX0_book_29 ⟨Nat.le_of_ble_eq_true rfl, Nat.le_of_ble_eq_true rfl⟩) hW hp4 (fun _ _ H locs hW => ?_)
    have hW : bW D g A s H locs [xW g adX (adN 0) (adT 0) iX X4, vW g adN N, vW g adT T, gW L kd nu aa] := hW
    cases hf
    exact b_iret hx hb hr hlk hE hW () rfl trivial rfl dX0_book_32
  · have hf := o_f hf c2
    refine lv_iload_n hx hb dX0_book_7 rfl (lv_at hl 2 rfl) ?_
    refine lv_iconst (v := 0) hx hb dX0_book_8 (by decide) ?_
    refine lv_bipush (v := 6) hx hb dX0_book_9 (by decide) ?_
    obtain ⟨r5, hc5, hf⟩ := o_b1s hf
    have hp5 : List.Perm [xW g adX (adN 0) (adT 0) iX X, vW g adN N, vW g adT T, gW L kd nu aa] ([] ++ [xW g adX (adN 0) (adT 0) iX X, vW g adN N, vW g adT T, gW L kd nu aa]) := b_perm [] [0, 1, 2, 3] 4 rfl rfl rfl rfl
    refine b_call0 ⟨rfl, rfl⟩ (va_runS (As := [.int x2, .int 0, .int 6]) (rest := []) ⟨hx, hb, hml, hown, hts⟩ (m_X0_isIn l D g H.size x2 0 6 r5 hc5) (va_cwS 3 hts (lw_S q344 q345 q76 q346) rfl rfl rfl (by decide +kernel) ⟨Nat.le_of_ble_eq_true rfl, Nat.le_of_ble_eq_true rfl⟩) (b_preS hW hp5) rfl rfl hl.1 rfl (lv_room (Nat.le_of_ble_eq_true rfl)) dX0_book_11 ⟨Nat.le_of_ble_eq_true rfl, Nat.le_of_ble_eq_true rfl⟩) hW hp5 (fun _ _ H locs hW => ?_)
    have hW : bW D g A s H locs [xW g adX (adN 0) (adT 0) iX X, vW g adN N, vW g adT T, gW L kd nu aa] := hW
    refine lv_if_eq (tgt := 26) hx hb dX0_book_14 (by decide) (fun c6 => ?_) (fun c6 => ?_)
    · have hf := o_t hf c6
      refine lv_aload_n hx hb dX0_book_26 rfl (lv_at hl 0 rfl) ?_
      refine lv_bipush (v := (-2)) hx hb dX0_book_27 (by decide) ?_
      obtain ⟨r7, X8, hc8, hf⟩ := o_b2s hf
      have hp8 : List.Perm [xW g adX (adN 0) (adT 0) iX X, vW g adN N, vW g adT T, gW L kd nu aa] ([xW g adX (adN 0) (adT 0) iX X] ++ [vW g adN N, vW g adT T, gW L kd nu aa]) := b_perm [0] [1, 2, 3] 4 rfl rfl rfl rfl
      refine b_call0 ⟨rfl, rfl⟩ (va_runV (As := [.int (-2)]) (rest := []) ⟨hx, hb, hml, hown, hts⟩ (m_X0_no l D g H.size adX iX adN adT X (-2) r7 X8 hc8) (cwV 1 hts (lw_V q347 q349 qs2 q76 q350) rfl rfl rfl (by decide +kernel) ⟨Nat.le_of_ble_eq_true rfl, Nat.le_of_ble_eq_true rfl⟩) (b_preV (pp := 0) (q := 0) hW hp8 rfl xW_0 rfl) rfl rfl hl.1 rfl (lv_room (Nat.le_of_ble_eq_true rfl)) dX0_book_29 ⟨Nat.le_of_ble_eq_true rfl, Nat.le_of_ble_eq_true rfl⟩) hW hp8 (fun _ _ H locs hW => ?_)
      have hW : bW D g A s H locs [xW g adX (adN 0) (adT 0) iX X8, vW g adN N, vW g adT T, gW L kd nu aa] := hW
      cases hf
      exact b_iret hx hb hr hlk hE hW () rfl trivial rfl dX0_book_32
    · have hf := o_f hf c6
      refine lv_aload_n hx hb dX0_book_17 rfl (lv_at hl 0 rfl) ?_
      refine lv_iload_n hx hb dX0_book_18 rfl (lv_at hl 1 rfl) ?_
      refine lv_iload_n hx hb dX0_book_19 rfl (lv_at hl 2 rfl) ?_
      obtain ⟨r9, T10, hc10, hf⟩ := o_b2s hf
      have hp10 : List.Perm [xW g adX (adN 0) (adT 0) iX X, vW g adN N, vW g adT T, gW L kd nu aa] ([xW g adX (adN 0) (adT 0) iX X, vW g adN N, vW g adT T, gW L kd nu aa] ++ []) := b_perm [0, 1, 2, 3] [] 4 rfl rfl rfl rfl
      refine b_call0 ⟨rfl, rfl⟩ (va_runV (As := [.int x1, .int x2]) (rest := []) ⟨hx, hb, hml, hown, hts⟩ (m_X0_bookOf l D g H.size adX iX adN adT fu X N T L kd nu aa x1 x2 r9 T10 hc10) (cwV 2 hts (lw_V q1310 q1312 qs27 q76 q1313) rfl rfl rfl (by decide +kernel) ⟨Nat.le_of_ble_eq_true rfl, Nat.le_of_ble_eq_true rfl⟩) (b_preV (pp := 0) (q := 0) hW hp10 rfl xW_0 rfl) rfl rfl hl.1 rfl (lv_room (Nat.le_of_ble_eq_true rfl)) dX0_book_20 ⟨Nat.le_of_ble_eq_true rfl, Nat.le_of_ble_eq_true rfl⟩) hW hp10 (fun _ _ H locs hW => ?_)
      have hW : bW D g A s H locs [xW g adX (adN 0) (adT 0) iX X, vW g adN N, vW g adT T10, gW L kd nu aa] := hW
      refine lv_goto (tgt := 32) hx hb dX0_book_23 (by decide) ?_
      cases hf
      exact b_iret hx hb hr hlk hE hW () rfl trivial rfl dX0_book_32
def f_X0_many_L29 (X : BC) (N : BC) (L : List Nat) (kd : Nat → Nat) (nu : Nat → Int32) (aa : Nat → Int32) (x1 : Int32) (fu : Nat) (r5 : Int32) (rec7 : (Int32 × BC) → Option (Int32 × BC × BC)) : Int32 × BC → Option (Int32 × BC × BC)
  | (v8, T9) =>
    o_b2 (f_X0_bookOf fu X N T9 L kd nu aa x1 v8) fun (r10 : Int32) (T11 : BC) =>
     o_b2 (f_X0_writtenBy fu X N T11 L kd nu aa x1 r10) fun (r12 : Int32) (T13 : BC) =>
     (if r5 ≤ r12 then
     some (v8, X, T13)
     else
     o_lt (v8 + 1) fun (v15 : Int32) =>
     rec7 (v15, T13))
def f_X0_many (fu : Nat) (X : BC) (N : BC) (T : BC) (L : List Nat) (kd : Nat → Nat) (nu : Nat → Int32) (aa : Nat → Int32) (x1 : Int32) : Option (Int32 × BC × BC) :=
 o_b1 (f_X0_isYears x1) fun (r1 : Int32) =>
 (if r1 = 0 then
 o_b2 (f_X0_no X (-2)) fun (r16 : Int32) (X17 : BC) =>
 some (r16, X17, T)
 else
 o_b2 (f_X0_bookOf fu X N T L kd nu aa x1 6) fun (r3 : Int32) (T4 : BC) =>
 o_b2 (f_X0_writtenBy fu X N T4 L kd nu aa x1 r3) fun (r5 : Int32) (T6 : BC) =>
 o_lp (f_X0_many_L29 X N L kd nu aa x1 fu r5) fu (0, T6))
abbrev rm_X0_many : Room := { frames := 10, cells := 0, slots := 0, locals := 237 }
set_option maxHeartbeats 4000000 in
set_option maxRecDepth 100000 in
theorem m_X0_many (l : Launch) (D : va_G) (g : Nat → ClassId) (sz : Nat) (adX : Nat → Nat) (iX : Option Nat) (adN : Nat → Nat) (adT : Nat → Nat) (fu : Nat) (X : BC) (N : BC) (T : BC) (L : List Nat) (kd : Nat → Nat) (nu : Nat → Int32) (aa : Nat → Int32) (x1 : Int32) (rO : Int32) (XO : BC) (TO : BC) (hf : f_X0_many fu X N T L kd nu aa x1 = some (rO, XO, TO)) : bMet (S := Unit) l yX0_many (ws_ yX0_many cX0_many 4 (some .int)) rm_X0_many D g sz [.ref (adX 0), .int x1] [xW g adX (adN 0) (adT 0) iX X, vW g adN N, vW g adT T, gW L kd nu aa] (fun _ => True) (fun _ => some (.int rO)) (fun _ => [xW g adX (adN 0) (adT 0) iX XO, vW g adN N, vW g adT TO, gW L kd nu aa]) := by
  refine b_met (by decide) (Nat.le_of_ble_eq_true rfl) ?_
  intro p e s m args below meth c A Q ls hx hb hml hr hlk hown hname hts hE hl hW
  revert hW; generalize s.heap = H; intro hW
  have hl : lv_has ls 4 [(0, .ref (adX 0)), (1, .int x1)] := hl
  rw [f_X0_many] at hf
  refine lv_iload_n hx hb dX0_many_0 rfl (lv_at hl 1 rfl) ?_
  obtain ⟨r1, hc1, hf⟩ := o_b1s hf
  have hp1 : List.Perm [xW g adX (adN 0) (adT 0) iX X, vW g adN N, vW g adT T, gW L kd nu aa] ([] ++ [xW g adX (adN 0) (adT 0) iX X, vW g adN N, vW g adT T, gW L kd nu aa]) := b_perm [] [0, 1, 2, 3] 4 rfl rfl rfl rfl
  refine b_call0 ⟨rfl, rfl⟩ (va_runS (As := [.int x1]) (rest := []) ⟨hx, hb, hml, hown, hts⟩ (m_X0_isYears l D g H.size x1 r1 hc1) (va_cwS 1 hts (lw_S q1271 q1272 q76 q1273) rfl rfl rfl (by decide +kernel) ⟨Nat.le_of_ble_eq_true rfl, Nat.le_of_ble_eq_true rfl⟩) (b_preS hW hp1) rfl rfl hl.1 rfl (lv_room (Nat.le_of_ble_eq_true rfl)) dX0_many_1 ⟨Nat.le_of_ble_eq_true rfl, Nat.le_of_ble_eq_true rfl⟩) hW hp1 (fun _ _ H locs hW => ?_)
  have hW : bW D g A s H locs [xW g adX (adN 0) (adT 0) iX X, vW g adN N, vW g adT T, gW L kd nu aa] := hW
  refine lv_if_ne (tgt := 14) hx hb dX0_many_4 (by decide) (fun c2 => ?_) (fun c2 => ?_)
  · have hf := o_f hf c2
    refine lv_aload_n hx hb dX0_many_14 rfl (lv_at hl 0 rfl) ?_
    refine lv_iload_n hx hb dX0_many_15 rfl (lv_at hl 1 rfl) ?_
    refine lv_aload_n hx hb dX0_many_16 rfl (lv_at hl 0 rfl) ?_
    refine lv_iload_n hx hb dX0_many_17 rfl (lv_at hl 1 rfl) ?_
    refine lv_bipush (v := 6) hx hb dX0_many_18 (by decide) ?_
    obtain ⟨r3, T4, hc4, hf⟩ := o_b2s hf
    have hp4 : List.Perm [xW g adX (adN 0) (adT 0) iX X, vW g adN N, vW g adT T, gW L kd nu aa] ([xW g adX (adN 0) (adT 0) iX X, vW g adN N, vW g adT T, gW L kd nu aa] ++ []) := b_perm [0, 1, 2, 3] [] 4 rfl rfl rfl rfl
    refine b_call0 ⟨rfl, rfl⟩ (va_runV (As := [.int x1, .int 6]) (rest := [.int x1, .ref (adX 0)]) ⟨hx, hb, hml, hown, hts⟩ (m_X0_bookOf l D g H.size adX iX adN adT fu X N T L kd nu aa x1 6 r3 T4 hc4) (cwV 2 hts (lw_V q1310 q1312 qs27 q76 q1313) rfl rfl rfl (by decide +kernel) ⟨Nat.le_of_ble_eq_true rfl, Nat.le_of_ble_eq_true rfl⟩) (b_preV (pp := 0) (q := 0) hW hp4 rfl xW_0 rfl) rfl rfl hl.1 rfl (lv_room (Nat.le_of_ble_eq_true rfl)) dX0_many_20 ⟨Nat.le_of_ble_eq_true rfl, Nat.le_of_ble_eq_true rfl⟩) hW hp4 (fun _ _ H locs hW => ?_)
    have hW : bW D g A s H locs [xW g adX (adN 0) (adT 0) iX X, vW g adN N, vW g adT T4, gW L kd nu aa] := hW
    obtain ⟨r5, T6, hc6, hf⟩ := o_b2s hf
    have hp6 : List.Perm [xW g adX (adN 0) (adT 0) iX X, vW g adN N, vW g adT T4, gW L kd nu aa] ([xW g adX (adN 0) (adT 0) iX X, vW g adN N, vW g adT T4, gW L kd nu aa] ++ []) := b_perm [0, 1, 2, 3] [] 4 rfl rfl rfl rfl
    refine b_call0 ⟨rfl, rfl⟩ (va_runV (As := [.int x1, .int r3]) (rest := []) ⟨hx, hb, hml, hown, hts⟩ (m_X0_writtenBy l D g H.size adX iX adN adT fu X N T4 L kd nu aa x1 r3 r5 T6 hc6) (cwV 2 hts (lw_V q1302 q1304 qs26 q76 q1305) rfl rfl rfl (by decide +kernel) ⟨Nat.le_of_ble_eq_true rfl, Nat.le_of_ble_eq_true rfl⟩) (b_preV (pp := 0) (q := 0) hW hp6 rfl xW_0 rfl) rfl rfl hl.1 rfl (lv_room (Nat.le_of_ble_eq_true rfl)) dX0_many_23 ⟨Nat.le_of_ble_eq_true rfl, Nat.le_of_ble_eq_true rfl⟩) hW hp6 (fun _ _ H locs hW => ?_)
    have hW : bW D g A s H locs [xW g adX (adN 0) (adT 0) iX X, vW g adN N, vW g adT T6, gW L kd nu aa] := hW
    refine lv_istore_n (lv' := [(2, .int r5), (0, .ref (adX 0)), (1, .int x1)]) hx hb dX0_many_26 rfl hl (by decide) rfl (fun ls hl => ?_)
    refine lv_iconst (v := 0) hx hb dX0_many_27 (by decide) ?_
    refine lv_istore_n (lv' := [(3, .int 0), (2, .int r5), (0, .ref (adX 0)), (1, .int x1)]) hx hb dX0_many_28 rfl hl (by decide) rfl (fun ls hl => ?_)
    obtain ⟨stp7, est7, hf⟩ := o_ln hf
    have L7 : ∀ (n : Nat) (v8 : Int32) (T9 : BC) (H : Heap) (locs : List Loc) (ls : Array Slot), bW D g A s H locs [xW g adX (adN 0) (adT 0) iX X, vW g adN N, vW g adT T9, gW L kd nu aa] → lv_has ls 4 [(3, .int v8), (2, .int r5), (0, .ref (adX 0)), (1, .int x1)] → o_lp stp7 n (v8, T9) = some (rO, XO, TO) → W p l e rm_X0_many s m args below meth c H locs 0 0 Q (F0 m 29 ls []) := by
      intro n7
      induction n7 with
      | zero => intro v8 T9 H locs ls hW hl hf; exact (o_lz hf).elim
      | succ n7 ih7 =>
        intro v8 T9 H locs ls hW hl hf
        have hf := o_lu est7 hf
        rw [f_X0_many_L29] at hf
        refine lv_aload_n hx hb dX0_many_29 rfl (lv_at hl 2 rfl) ?_
        refine lv_iload_n hx hb dX0_many_30 rfl (lv_at hl 3 rfl) ?_
        refine lv_aload_n hx hb dX0_many_31 rfl (lv_at hl 2 rfl) ?_
        refine lv_iload_n hx hb dX0_many_32 rfl (lv_at hl 3 rfl) ?_
        refine lv_iload_n hx hb dX0_many_33 rfl (lv_at hl 0 rfl) ?_
        obtain ⟨r10, T11, hc11, hf⟩ := o_b2s hf
        have hp11 : List.Perm [xW g adX (adN 0) (adT 0) iX X, vW g adN N, vW g adT T9, gW L kd nu aa] ([xW g adX (adN 0) (adT 0) iX X, vW g adN N, vW g adT T9, gW L kd nu aa] ++ []) := b_perm [0, 1, 2, 3] [] 4 rfl rfl rfl rfl
        refine b_call0 ⟨rfl, rfl⟩ (va_runV (As := [.int x1, .int v8]) (rest := [.int x1, .ref (adX 0)]) ⟨hx, hb, hml, hown, hts⟩ (m_X0_bookOf l D g H.size adX iX adN adT fu X N T9 L kd nu aa x1 v8 r10 T11 hc11) (cwV 2 hts (lw_V q1310 q1312 qs27 q76 q1313) rfl rfl rfl (by decide +kernel) ⟨Nat.le_of_ble_eq_true rfl, Nat.le_of_ble_eq_true rfl⟩) (b_preV (pp := 0) (q := 0) hW hp11 rfl xW_0 rfl) rfl rfl hl.1 rfl (lv_room (Nat.le_of_ble_eq_true rfl)) dX0_many_34 ⟨Nat.le_of_ble_eq_true rfl, Nat.le_of_ble_eq_true rfl⟩) hW hp11 (fun _ _ H locs hW => ?_)
        have hW : bW D g A s H locs [xW g adX (adN 0) (adT 0) iX X, vW g adN N, vW g adT T11, gW L kd nu aa] := hW
        obtain ⟨r12, T13, hc13, hf⟩ := o_b2s hf
        have hp13 : List.Perm [xW g adX (adN 0) (adT 0) iX X, vW g adN N, vW g adT T11, gW L kd nu aa] ([xW g adX (adN 0) (adT 0) iX X, vW g adN N, vW g adT T11, gW L kd nu aa] ++ []) := b_perm [0, 1, 2, 3] [] 4 rfl rfl rfl rfl
        refine b_call0 ⟨rfl, rfl⟩ (va_runV (As := [.int x1, .int r10]) (rest := []) ⟨hx, hb, hml, hown, hts⟩ (m_X0_writtenBy l D g H.size adX iX adN adT fu X N T11 L kd nu aa x1 r10 r12 T13 hc13) (cwV 2 hts (lw_V q1302 q1304 qs26 q76 q1305) rfl rfl rfl (by decide +kernel) ⟨Nat.le_of_ble_eq_true rfl, Nat.le_of_ble_eq_true rfl⟩) (b_preV (pp := 0) (q := 0) hW hp13 rfl xW_0 rfl) rfl rfl hl.1 rfl (lv_room (Nat.le_of_ble_eq_true rfl)) dX0_many_37 ⟨Nat.le_of_ble_eq_true rfl, Nat.le_of_ble_eq_true rfl⟩) hW hp13 (fun _ _ H locs hW => ?_)
        have hW : bW D g A s H locs [xW g adX (adN 0) (adT 0) iX X, vW g adN N, vW g adT T13, gW L kd nu aa] := hW
        refine lv_iload_n hx hb dX0_many_40 rfl (lv_at hl 1 rfl) ?_
        refine lv_icmp_ge (tgt := 50) hx hb dX0_many_41 (by decide) (fun c14 => ?_) (fun c14 => ?_)
        · have hf := o_t hf c14
          refine lv_iload_n hx hb dX0_many_50 rfl (lv_at hl 0 rfl) ?_
          cases hf
          exact b_iret hx hb hr hlk hE hW () rfl trivial rfl dX0_many_51
        · have hf := o_f hf c14
          obtain ⟨v15, ev15, hf⟩ := o_ls hf
          refine lv_iinc (v := v15) (lv' := [(3, .int v15), (2, .int r5), (0, .ref (adX 0)), (1, .int x1)]) hx hb dX0_many_44 hl (k := 0) rfl ev15 (by decide) rfl (fun ls hl => ?_)
          refine lv_goto (tgt := 29) hx hb dX0_many_47 (by decide) ?_
          exact ih7 _ _ _ _ _ hW (lv_sub hl [0, 1, 2, 3] rfl) hf
    exact L7 _ _ _ _ _ _ hW (lv_sub hl [0, 1, 2, 3] rfl) hf
  · have hf := o_t hf c2
    refine lv_aload_n hx hb dX0_many_7 rfl (lv_at hl 0 rfl) ?_
    refine lv_bipush (v := (-2)) hx hb dX0_many_8 (by decide) ?_
    obtain ⟨r16, X17, hc17, hf⟩ := o_b2s hf
    have hp17 : List.Perm [xW g adX (adN 0) (adT 0) iX X, vW g adN N, vW g adT T, gW L kd nu aa] ([xW g adX (adN 0) (adT 0) iX X] ++ [vW g adN N, vW g adT T, gW L kd nu aa]) := b_perm [0] [1, 2, 3] 4 rfl rfl rfl rfl
    refine b_call0 ⟨rfl, rfl⟩ (va_runV (As := [.int (-2)]) (rest := []) ⟨hx, hb, hml, hown, hts⟩ (m_X0_no l D g H.size adX iX adN adT X (-2) r16 X17 hc17) (cwV 1 hts (lw_V q347 q349 qs2 q76 q350) rfl rfl rfl (by decide +kernel) ⟨Nat.le_of_ble_eq_true rfl, Nat.le_of_ble_eq_true rfl⟩) (b_preV (pp := 0) (q := 0) hW hp17 rfl xW_0 rfl) rfl rfl hl.1 rfl (lv_room (Nat.le_of_ble_eq_true rfl)) dX0_many_10 ⟨Nat.le_of_ble_eq_true rfl, Nat.le_of_ble_eq_true rfl⟩) hW hp17 (fun _ _ H locs hW => ?_)
    have hW : bW D g A s H locs [xW g adX (adN 0) (adT 0) iX X17, vW g adN N, vW g adT T, gW L kd nu aa] := hW
    cases hf
    exact b_iret hx hb hr hlk hE hW () rfl trivial rfl dX0_many_13
def f_X0_kept (fu : Nat) (X : BC) (N : BC) (T : BC) (L : List Nat) (kd : Nat → Nat) (nu : Nat → Int32) (aa : Nat → Int32) (x1 : Int32) (x2 : Int32) : Option (Int32 × BC × BC) :=
 o_b1 (f_X0_isYears x1) fun (r1 : Int32) =>
 (if r1 = 0 then
 o_b2 (f_X0_noLow X (-2)) fun (r3 : Int32) (X4 : BC) =>
 some (r3, X4, T)
 else
 o_b1 (f_X1_isInn N x2) fun (r5 : Int32) =>
 (if r5 = 0 then
 o_b2 (f_X0_noLow X (-2)) fun (r18 : Int32) (X19 : BC) =>
 some (r18, X19, T)
 else
 o_ck (inB x2 6) ((if (N.1 5 (ix x2)) = (-1) then
 o_b2 (f_X0_noLow X (-5)) fun (r16 : Int32) (X17 : BC) =>
 some (r16, X17, T)
 else
 o_b1 (f_X0_tried X N T L kd nu aa) fun (T9 : BC) =>
 o_b2 (f_X1_yearsOfOwn fu T9 L kd nu aa x1) fun (r10 : Int32) (T11 : BC) =>
 o_b1 (f_X0_tried X N T11 L kd nu aa) fun (T12 : BC) =>
 o_lt (bI T12 5 (upd (T12.1 5) (ix x2) (-1))) fun (T13 : BC) =>
 o_b2 (f_X1_yearsOfOwn fu T13 L kd nu aa x1) fun (r14 : Int32) (T15 : BC) =>
 some (r14 - r10, X, T15)))))
abbrev rm_X0_kept : Room := { frames := 8, cells := 0, slots := 0, locals := 187 }
set_option maxHeartbeats 4000000 in
set_option maxRecDepth 100000 in
theorem m_X0_kept (l : Launch) (D : va_G) (g : Nat → ClassId) (sz : Nat) (adX : Nat → Nat) (iX : Option Nat) (adN : Nat → Nat) (adT : Nat → Nat) (fu : Nat) (X : BC) (N : BC) (T : BC) (L : List Nat) (kd : Nat → Nat) (nu : Nat → Int32) (aa : Nat → Int32) (x1 : Int32) (x2 : Int32) (rO : Int32) (XO : BC) (TO : BC) (hf : f_X0_kept fu X N T L kd nu aa x1 x2 = some (rO, XO, TO)) : bMet (S := Unit) l yX0_kept (ws_ yX0_kept cX0_kept 5 (some .int)) rm_X0_kept D g sz [.ref (adX 0), .int x1, .int x2] [xW g adX (adN 0) (adT 0) iX X, vW g adN N, vW g adT T, gW L kd nu aa] (fun _ => True) (fun _ => some (.int rO)) (fun _ => [xW g adX (adN 0) (adT 0) iX XO, vW g adN N, vW g adT TO, gW L kd nu aa]) := by
  refine b_met (by decide) (Nat.le_of_ble_eq_true rfl) ?_
  intro p e s m args below meth c A Q ls hx hb hml hr hlk hown hname hts hE hl hW
  revert hW; generalize s.heap = H; intro hW
  have hl : lv_has ls 5 [(0, .ref (adX 0)), (1, .int x1), (2, .int x2)] := hl
  rw [f_X0_kept] at hf
  refine lv_iload_n hx hb dX0_kept_0 rfl (lv_at hl 1 rfl) ?_
  obtain ⟨r1, hc1, hf⟩ := o_b1s hf
  have hp1 : List.Perm [xW g adX (adN 0) (adT 0) iX X, vW g adN N, vW g adT T, gW L kd nu aa] ([] ++ [xW g adX (adN 0) (adT 0) iX X, vW g adN N, vW g adT T, gW L kd nu aa]) := b_perm [] [0, 1, 2, 3] 4 rfl rfl rfl rfl
  refine b_call0 ⟨rfl, rfl⟩ (va_runS (As := [.int x1]) (rest := []) ⟨hx, hb, hml, hown, hts⟩ (m_X0_isYears l D g H.size x1 r1 hc1) (va_cwS 1 hts (lw_S q1271 q1272 q76 q1273) rfl rfl rfl (by decide +kernel) ⟨Nat.le_of_ble_eq_true rfl, Nat.le_of_ble_eq_true rfl⟩) (b_preS hW hp1) rfl rfl hl.1 rfl (lv_room (Nat.le_of_ble_eq_true rfl)) dX0_kept_1 ⟨Nat.le_of_ble_eq_true rfl, Nat.le_of_ble_eq_true rfl⟩) hW hp1 (fun _ _ H locs hW => ?_)
  have hW : bW D g A s H locs [xW g adX (adN 0) (adT 0) iX X, vW g adN N, vW g adT T, gW L kd nu aa] := hW
  refine lv_if_eq (tgt := 18) hx hb dX0_kept_4 (by decide) (fun c2 => ?_) (fun c2 => ?_)
  · have hf := o_t hf c2
    refine lv_aload_n hx hb dX0_kept_18 rfl (lv_at hl 0 rfl) ?_
    refine lv_bipush (v := (-2)) hx hb dX0_kept_19 (by decide) ?_
    obtain ⟨r3, X4, hc4, hf⟩ := o_b2s hf
    have hp4 : List.Perm [xW g adX (adN 0) (adT 0) iX X, vW g adN N, vW g adT T, gW L kd nu aa] ([xW g adX (adN 0) (adT 0) iX X] ++ [vW g adN N, vW g adT T, gW L kd nu aa]) := b_perm [0] [1, 2, 3] 4 rfl rfl rfl rfl
    refine b_call0 ⟨rfl, rfl⟩ (va_runV (As := [.int (-2)]) (rest := []) ⟨hx, hb, hml, hown, hts⟩ (m_X0_noLow l D g H.size adX iX adN adT X (-2) r3 X4 hc4) (cwV 1 hts (lw_V q1126 q1128 qs18 q76 q1129) rfl rfl rfl (by decide +kernel) ⟨Nat.le_of_ble_eq_true rfl, Nat.le_of_ble_eq_true rfl⟩) (b_preV (pp := 0) (q := 0) hW hp4 rfl xW_0 rfl) rfl rfl hl.1 rfl (lv_room (Nat.le_of_ble_eq_true rfl)) dX0_kept_21 ⟨Nat.le_of_ble_eq_true rfl, Nat.le_of_ble_eq_true rfl⟩) hW hp4 (fun _ _ H locs hW => ?_)
    have hW : bW D g A s H locs [xW g adX (adN 0) (adT 0) iX X4, vW g adN N, vW g adT T, gW L kd nu aa] := hW
    cases hf
    exact b_iret hx hb hr hlk hE hW () rfl trivial rfl dX0_kept_24
  · have hf := o_f hf c2
    refine lv_aload_n hx hb dX0_kept_7 rfl (lv_at hl 0 rfl) ?_
    refine b_get hx hb hts in_X0 hown hW 0 0 0 0 rfl xW_0 rfl (by decide) ⟨rfl, rfl, rfl⟩ (hts _ q227) xW_g0 dX0_kept_8 ?_
    refine lv_iload_n hx hb dX0_kept_11 rfl (lv_at hl 2 rfl) ?_
    obtain ⟨r5, hc5, hf⟩ := o_b1s hf
    have hp5 : List.Perm [xW g adX (adN 0) (adT 0) iX X, vW g adN N, vW g adT T, gW L kd nu aa] ([vW g adN N] ++ [xW g adX (adN 0) (adT 0) iX X, vW g adT T, gW L kd nu aa]) := b_perm [1] [0, 2, 3] 4 rfl rfl rfl rfl
    refine b_call0 ⟨rfl, rfl⟩ (va_runV (As := [.int x2]) (rest := []) ⟨hx, hb, hml, hown, hts⟩ (m_X1_isInn l D g H.size adN N x2 r5 hc5) (cwV 1 hts (lw_V q672 q673 q674 q77 q675) rfl rfl rfl (by decide +kernel) ⟨Nat.le_of_ble_eq_true rfl, Nat.le_of_ble_eq_true rfl⟩) (b_preV (pp := 1) (q := 0) hW hp5 rfl vW_0 rfl) rfl rfl hl.1 rfl (lv_room (Nat.le_of_ble_eq_true rfl)) dX0_kept_12 ⟨Nat.le_of_ble_eq_true rfl, Nat.le_of_ble_eq_true rfl⟩) hW hp5 (fun _ _ H locs hW => ?_)
    have hW : bW D g A s H locs [vW g adN N, xW g adX (adN 0) (adT 0) iX X, vW g adT T, gW L kd nu aa] := hW
    refine lv_if_ne (tgt := 25) hx hb dX0_kept_15 (by decide) (fun c6 => ?_) (fun c6 => ?_)
    · have hf := o_f hf c6
      refine lv_aload_n hx hb dX0_kept_25 rfl (lv_at hl 0 rfl) ?_
      refine b_get hx hb hts in_X0 hown hW 1 0 0 0 rfl xW_0 rfl (by decide) ⟨rfl, rfl, rfl⟩ (hts _ q227) xW_g0 dX0_kept_26 ?_
      refine b_get hx hb hts in_X1 hown hW 0 0 1 4 rfl vW_0 rfl (by decide) ⟨rfl, rfl, rfl⟩ (hts _ q145) vW_g4 dX0_kept_29 ?_
      refine lv_iload_n hx hb dX0_kept_32 rfl (lv_at hl 2 rfl) ?_
      obtain ⟨h7, hf⟩ := o_cs hf
      refine b_iald hx hb hW 0 5 rfl vW_5 h7 dX0_kept_33 ?_
      refine lv_iconst (v := (-1)) hx hb dX0_kept_34 (by decide) ?_
      refine lv_icmp_ne (tgt := 45) hx hb dX0_kept_35 (by decide) (fun c8 => ?_) (fun c8 => ?_)
      · have hf := o_f hf c8
        refine lv_aload_n hx hb dX0_kept_45 rfl (lv_at hl 0 rfl) ?_
        obtain ⟨T9, hc9, hf⟩ := o_b1s hf
        have hp9 : List.Perm [vW g adN N, xW g adX (adN 0) (adT 0) iX X, vW g adT T, gW L kd nu aa] ([xW g adX (adN 0) (adT 0) iX X, vW g adN N, vW g adT T, gW L kd nu aa] ++ []) := b_perm [1, 0, 2, 3] [] 4 rfl rfl rfl rfl
        refine b_call0 ⟨rfl, rfl⟩ (va_runV (As := []) (rest := []) ⟨hx, hb, hml, hown, hts⟩ (m_X0_tried l D g H.size adX iX adN adT X N T L kd nu aa T9 hc9) (cwV 0 hts (lw_V q1223 q1225 qs22 q76 q1226) rfl rfl rfl (by decide +kernel) ⟨Nat.le_of_ble_eq_true rfl, Nat.le_of_ble_eq_true rfl⟩) (b_preV (pp := 1) (q := 0) hW hp9 rfl xW_0 rfl) rfl rfl hl.1 rfl (lv_room (Nat.le_of_ble_eq_true rfl)) dX0_kept_46 ⟨Nat.le_of_ble_eq_true rfl, Nat.le_of_ble_eq_true rfl⟩) hW hp9 (fun _ _ H locs hW => ?_)
        have hW : bW D g A s H locs [xW g adX (adN 0) (adT 0) iX X, vW g adN N, vW g adT T9, gW L kd nu aa] := hW
        refine lv_iload_n hx hb dX0_kept_49 rfl (lv_at hl 1 rfl) ?_
        obtain ⟨r10, T11, hc11, hf⟩ := o_b2s hf
        have hp11 : List.Perm [xW g adX (adN 0) (adT 0) iX X, vW g adN N, vW g adT T9, gW L kd nu aa] ([vW g adT T9, gW L kd nu aa] ++ [xW g adX (adN 0) (adT 0) iX X, vW g adN N]) := b_perm [2, 3] [0, 1] 4 rfl rfl rfl rfl
        refine b_call0 ⟨rfl, rfl⟩ (va_runV (As := [.int x1]) (rest := []) ⟨hx, hb, hml, hown, hts⟩ (m_X1_yearsOfOwn l D g H.size adT fu T9 L kd nu aa x1 r10 T11 hc11) (cwV 1 hts (lw_V q1364 q1365 q1366 q77 q1367) rfl rfl rfl (by decide +kernel) ⟨Nat.le_of_ble_eq_true rfl, Nat.le_of_ble_eq_true rfl⟩) (b_preV (pp := 2) (q := 0) hW hp11 rfl vW_0 rfl) rfl rfl hl.1 rfl (lv_room (Nat.le_of_ble_eq_true rfl)) dX0_kept_50 ⟨Nat.le_of_ble_eq_true rfl, Nat.le_of_ble_eq_true rfl⟩) hW hp11 (fun _ _ H locs hW => ?_)
        have hW : bW D g A s H locs [vW g adT T11, gW L kd nu aa, xW g adX (adN 0) (adT 0) iX X, vW g adN N] := hW
        refine lv_istore_n (lv' := [(3, .int r10), (0, .ref (adX 0)), (1, .int x1), (2, .int x2)]) hx hb dX0_kept_53 rfl hl (by decide) rfl (fun ls hl => ?_)
        refine lv_aload_n hx hb dX0_kept_54 rfl (lv_at hl 1 rfl) ?_
        obtain ⟨T12, hc12, hf⟩ := o_b1s hf
        have hp12 : List.Perm [vW g adT T11, gW L kd nu aa, xW g adX (adN 0) (adT 0) iX X, vW g adN N] ([xW g adX (adN 0) (adT 0) iX X, vW g adN N, vW g adT T11, gW L kd nu aa] ++ []) := b_perm [2, 3, 0, 1] [] 4 rfl rfl rfl rfl
        refine b_call0 ⟨rfl, rfl⟩ (va_runV (As := []) (rest := []) ⟨hx, hb, hml, hown, hts⟩ (m_X0_tried l D g H.size adX iX adN adT X N T11 L kd nu aa T12 hc12) (cwV 0 hts (lw_V q1223 q1225 qs22 q76 q1226) rfl rfl rfl (by decide +kernel) ⟨Nat.le_of_ble_eq_true rfl, Nat.le_of_ble_eq_true rfl⟩) (b_preV (pp := 2) (q := 0) hW hp12 rfl xW_0 rfl) rfl rfl hl.1 rfl (lv_room (Nat.le_of_ble_eq_true rfl)) dX0_kept_55 ⟨Nat.le_of_ble_eq_true rfl, Nat.le_of_ble_eq_true rfl⟩) hW hp12 (fun _ _ H locs hW => ?_)
        have hW : bW D g A s H locs [xW g adX (adN 0) (adT 0) iX X, vW g adN N, vW g adT T12, gW L kd nu aa] := hW
        refine lv_astore (lv' := [(4, .ref (adT 0)), (3, .int r10), (0, .ref (adX 0)), (1, .int x1), (2, .int x2)]) hx hb dX0_kept_58 hl (by decide) rfl (fun ls hl => ?_)
        refine lv_aload hx hb dX0_kept_60 (lv_at hl 0 rfl) ?_
        refine b_get hx hb hts in_X1 hown hW 2 0 1 4 rfl vW_0 rfl (by decide) ⟨rfl, rfl, rfl⟩ (hts _ q145) vW_g4 dX0_kept_62 ?_
        refine lv_iload_n hx hb dX0_kept_65 rfl (lv_at hl 4 rfl) ?_
        refine lv_iconst (v := (-1)) hx hb dX0_kept_66 (by decide) ?_
        obtain ⟨T13, eT13, hf⟩ := o_ls hf
        refine b_iast hx hb hW 2 5 rfl vW_5 (vW_s5 eT13) rfl h7 dX0_kept_67 (fun H locs hW => ?_)
        have hW : bW D g A s H locs [xW g adX (adN 0) (adT 0) iX X, vW g adN N, vW g adT T13, gW L kd nu aa] := hW
        refine lv_aload hx hb dX0_kept_68 (lv_at hl 0 rfl) ?_
        refine lv_iload_n hx hb dX0_kept_70 rfl (lv_at hl 3 rfl) ?_
        obtain ⟨r14, T15, hc15, hf⟩ := o_b2s hf
        have hp15 : List.Perm [xW g adX (adN 0) (adT 0) iX X, vW g adN N, vW g adT T13, gW L kd nu aa] ([vW g adT T13, gW L kd nu aa] ++ [xW g adX (adN 0) (adT 0) iX X, vW g adN N]) := b_perm [2, 3] [0, 1] 4 rfl rfl rfl rfl
        refine b_call0 ⟨rfl, rfl⟩ (va_runV (As := [.int x1]) (rest := []) ⟨hx, hb, hml, hown, hts⟩ (m_X1_yearsOfOwn l D g H.size adT fu T13 L kd nu aa x1 r14 T15 hc15) (cwV 1 hts (lw_V q1364 q1365 q1366 q77 q1367) rfl rfl rfl (by decide +kernel) ⟨Nat.le_of_ble_eq_true rfl, Nat.le_of_ble_eq_true rfl⟩) (b_preV (pp := 2) (q := 0) hW hp15 rfl vW_0 rfl) rfl rfl hl.1 rfl (lv_room (Nat.le_of_ble_eq_true rfl)) dX0_kept_71 ⟨Nat.le_of_ble_eq_true rfl, Nat.le_of_ble_eq_true rfl⟩) hW hp15 (fun _ _ H locs hW => ?_)
        have hW : bW D g A s H locs [vW g adT T15, gW L kd nu aa, xW g adX (adN 0) (adT 0) iX X, vW g adN N] := hW
        refine lv_iload_n hx hb dX0_kept_74 rfl (lv_at hl 1 rfl) ?_
        refine lv_isub hx hb dX0_kept_75 ?_
        cases hf
        exact b_iret hx hb hr hlk hE (b_perms hW (b_ord [2, 3, 0, 1] 4 rfl rfl rfl)) () rfl trivial rfl dX0_kept_76
      · have hf := o_t hf c8
        refine lv_aload_n hx hb dX0_kept_38 rfl (lv_at hl 0 rfl) ?_
        refine lv_bipush (v := (-5)) hx hb dX0_kept_39 (by decide) ?_
        obtain ⟨r16, X17, hc17, hf⟩ := o_b2s hf
        have hp17 : List.Perm [vW g adN N, xW g adX (adN 0) (adT 0) iX X, vW g adT T, gW L kd nu aa] ([xW g adX (adN 0) (adT 0) iX X] ++ [vW g adN N, vW g adT T, gW L kd nu aa]) := b_perm [1] [0, 2, 3] 4 rfl rfl rfl rfl
        refine b_call0 ⟨rfl, rfl⟩ (va_runV (As := [.int (-5)]) (rest := []) ⟨hx, hb, hml, hown, hts⟩ (m_X0_noLow l D g H.size adX iX adN adT X (-5) r16 X17 hc17) (cwV 1 hts (lw_V q1126 q1128 qs18 q76 q1129) rfl rfl rfl (by decide +kernel) ⟨Nat.le_of_ble_eq_true rfl, Nat.le_of_ble_eq_true rfl⟩) (b_preV (pp := 1) (q := 0) hW hp17 rfl xW_0 rfl) rfl rfl hl.1 rfl (lv_room (Nat.le_of_ble_eq_true rfl)) dX0_kept_41 ⟨Nat.le_of_ble_eq_true rfl, Nat.le_of_ble_eq_true rfl⟩) hW hp17 (fun _ _ H locs hW => ?_)
        have hW : bW D g A s H locs [xW g adX (adN 0) (adT 0) iX X17, vW g adN N, vW g adT T, gW L kd nu aa] := hW
        cases hf
        exact b_iret hx hb hr hlk hE hW () rfl trivial rfl dX0_kept_44
    · have hf := o_t hf c6
      refine lv_aload_n hx hb dX0_kept_18 rfl (lv_at hl 0 rfl) ?_
      refine lv_bipush (v := (-2)) hx hb dX0_kept_19 (by decide) ?_
      obtain ⟨r18, X19, hc19, hf⟩ := o_b2s hf
      have hp19 : List.Perm [vW g adN N, xW g adX (adN 0) (adT 0) iX X, vW g adT T, gW L kd nu aa] ([xW g adX (adN 0) (adT 0) iX X] ++ [vW g adN N, vW g adT T, gW L kd nu aa]) := b_perm [1] [0, 2, 3] 4 rfl rfl rfl rfl
      refine b_call0 ⟨rfl, rfl⟩ (va_runV (As := [.int (-2)]) (rest := []) ⟨hx, hb, hml, hown, hts⟩ (m_X0_noLow l D g H.size adX iX adN adT X (-2) r18 X19 hc19) (cwV 1 hts (lw_V q1126 q1128 qs18 q76 q1129) rfl rfl rfl (by decide +kernel) ⟨Nat.le_of_ble_eq_true rfl, Nat.le_of_ble_eq_true rfl⟩) (b_preV (pp := 1) (q := 0) hW hp19 rfl xW_0 rfl) rfl rfl hl.1 rfl (lv_room (Nat.le_of_ble_eq_true rfl)) dX0_kept_21 ⟨Nat.le_of_ble_eq_true rfl, Nat.le_of_ble_eq_true rfl⟩) hW hp19 (fun _ _ H locs hW => ?_)
      have hW : bW D g A s H locs [xW g adX (adN 0) (adT 0) iX X19, vW g adN N, vW g adT T, gW L kd nu aa] := hW
      cases hf
      exact b_iret hx hb hr hlk hE hW () rfl trivial rfl dX0_kept_24
def f_X0_called (fu : Nat) (X : BC) (N : BC) (T : BC) (L : List Nat) (kd : Nat → Nat) (nu : Nat → Int32) (aa : Nat → Int32) (x1 : Int32) (x2 : Int32) (x3 : Int32) : Option (Int32 × BC × BC) :=
 o_b1 (f_X0_isYears x1) fun (r1 : Int32) =>
 (if r1 = 0 then
 o_b2 (f_X0_noLow X (-2)) fun (r3 : Int32) (X4 : BC) =>
 some (r3, X4, T)
 else
 o_b1 (f_X1_isInn N x2) fun (r5 : Int32) =>
 (if r5 = 0 then
 o_b2 (f_X0_noLow X (-2)) fun (r7 : Int32) (X8 : BC) =>
 some (r7, X8, T)
 else
 o_b1 (f_X0_isIn x3 0 100) fun (r9 : Int32) =>
 (if r9 = 0 then
 o_b2 (f_X0_noLow X (-2)) fun (r19 : Int32) (X20 : BC) =>
 some (r19, X20, T)
 else
 o_b1 (f_X0_tried X N T L kd nu aa) fun (T11 : BC) =>
 o_b2 (f_X1_years fu T11 L kd nu aa x1 (-1)) fun (r12 : Int32) (T13 : BC) =>
 o_b1 (f_X0_tried X N T13 L kd nu aa) fun (T14 : BC) =>
 o_ck (inB x2 6) (o_lt (bI T14 5 (upd (T14.1 5) (ix x2) x3)) fun (T16 : BC) =>
 o_b2 (f_X1_years fu T16 L kd nu aa x1 (-1)) fun (r17 : Int32) (T18 : BC) =>
 some (r17 - r12, X, T18)))))
abbrev rm_X0_called : Room := { frames := 8, cells := 0, slots := 0, locals := 188 }
set_option maxHeartbeats 4000000 in
set_option maxRecDepth 100000 in
theorem m_X0_called (l : Launch) (D : va_G) (g : Nat → ClassId) (sz : Nat) (adX : Nat → Nat) (iX : Option Nat) (adN : Nat → Nat) (adT : Nat → Nat) (fu : Nat) (X : BC) (N : BC) (T : BC) (L : List Nat) (kd : Nat → Nat) (nu : Nat → Int32) (aa : Nat → Int32) (x1 : Int32) (x2 : Int32) (x3 : Int32) (rO : Int32) (XO : BC) (TO : BC) (hf : f_X0_called fu X N T L kd nu aa x1 x2 x3 = some (rO, XO, TO)) : bMet (S := Unit) l yX0_called (ws_ yX0_called cX0_called 6 (some .int)) rm_X0_called D g sz [.ref (adX 0), .int x1, .int x2, .int x3] [xW g adX (adN 0) (adT 0) iX X, vW g adN N, vW g adT T, gW L kd nu aa] (fun _ => True) (fun _ => some (.int rO)) (fun _ => [xW g adX (adN 0) (adT 0) iX XO, vW g adN N, vW g adT TO, gW L kd nu aa]) := by
  refine b_met (by decide) (Nat.le_of_ble_eq_true rfl) ?_
  intro p e s m args below meth c A Q ls hx hb hml hr hlk hown hname hts hE hl hW
  revert hW; generalize s.heap = H; intro hW
  have hl : lv_has ls 6 [(0, .ref (adX 0)), (1, .int x1), (2, .int x2), (3, .int x3)] := hl
  rw [f_X0_called] at hf
  refine lv_iload_n hx hb dX0_called_0 rfl (lv_at hl 1 rfl) ?_
  obtain ⟨r1, hc1, hf⟩ := o_b1s hf
  have hp1 : List.Perm [xW g adX (adN 0) (adT 0) iX X, vW g adN N, vW g adT T, gW L kd nu aa] ([] ++ [xW g adX (adN 0) (adT 0) iX X, vW g adN N, vW g adT T, gW L kd nu aa]) := b_perm [] [0, 1, 2, 3] 4 rfl rfl rfl rfl
  refine b_call0 ⟨rfl, rfl⟩ (va_runS (As := [.int x1]) (rest := []) ⟨hx, hb, hml, hown, hts⟩ (m_X0_isYears l D g H.size x1 r1 hc1) (va_cwS 1 hts (lw_S q1271 q1272 q76 q1273) rfl rfl rfl (by decide +kernel) ⟨Nat.le_of_ble_eq_true rfl, Nat.le_of_ble_eq_true rfl⟩) (b_preS hW hp1) rfl rfl hl.1 rfl (lv_room (Nat.le_of_ble_eq_true rfl)) dX0_called_1 ⟨Nat.le_of_ble_eq_true rfl, Nat.le_of_ble_eq_true rfl⟩) hW hp1 (fun _ _ H locs hW => ?_)
  have hW : bW D g A s H locs [xW g adX (adN 0) (adT 0) iX X, vW g adN N, vW g adT T, gW L kd nu aa] := hW
  refine lv_if_eq (tgt := 28) hx hb dX0_called_4 (by decide) (fun c2 => ?_) (fun c2 => ?_)
  · have hf := o_t hf c2
    refine lv_aload_n hx hb dX0_called_28 rfl (lv_at hl 0 rfl) ?_
    refine lv_bipush (v := (-2)) hx hb dX0_called_29 (by decide) ?_
    obtain ⟨r3, X4, hc4, hf⟩ := o_b2s hf
    have hp4 : List.Perm [xW g adX (adN 0) (adT 0) iX X, vW g adN N, vW g adT T, gW L kd nu aa] ([xW g adX (adN 0) (adT 0) iX X] ++ [vW g adN N, vW g adT T, gW L kd nu aa]) := b_perm [0] [1, 2, 3] 4 rfl rfl rfl rfl
    refine b_call0 ⟨rfl, rfl⟩ (va_runV (As := [.int (-2)]) (rest := []) ⟨hx, hb, hml, hown, hts⟩ (m_X0_noLow l D g H.size adX iX adN adT X (-2) r3 X4 hc4) (cwV 1 hts (lw_V q1126 q1128 qs18 q76 q1129) rfl rfl rfl (by decide +kernel) ⟨Nat.le_of_ble_eq_true rfl, Nat.le_of_ble_eq_true rfl⟩) (b_preV (pp := 0) (q := 0) hW hp4 rfl xW_0 rfl) rfl rfl hl.1 rfl (lv_room (Nat.le_of_ble_eq_true rfl)) dX0_called_31 ⟨Nat.le_of_ble_eq_true rfl, Nat.le_of_ble_eq_true rfl⟩) hW hp4 (fun _ _ H locs hW => ?_)
    have hW : bW D g A s H locs [xW g adX (adN 0) (adT 0) iX X4, vW g adN N, vW g adT T, gW L kd nu aa] := hW
    cases hf
    exact b_iret hx hb hr hlk hE hW () rfl trivial rfl dX0_called_34
  · have hf := o_f hf c2
    refine lv_aload_n hx hb dX0_called_7 rfl (lv_at hl 0 rfl) ?_
    refine b_get hx hb hts in_X0 hown hW 0 0 0 0 rfl xW_0 rfl (by decide) ⟨rfl, rfl, rfl⟩ (hts _ q227) xW_g0 dX0_called_8 ?_
    refine lv_iload_n hx hb dX0_called_11 rfl (lv_at hl 2 rfl) ?_
    obtain ⟨r5, hc5, hf⟩ := o_b1s hf
    have hp5 : List.Perm [xW g adX (adN 0) (adT 0) iX X, vW g adN N, vW g adT T, gW L kd nu aa] ([vW g adN N] ++ [xW g adX (adN 0) (adT 0) iX X, vW g adT T, gW L kd nu aa]) := b_perm [1] [0, 2, 3] 4 rfl rfl rfl rfl
    refine b_call0 ⟨rfl, rfl⟩ (va_runV (As := [.int x2]) (rest := []) ⟨hx, hb, hml, hown, hts⟩ (m_X1_isInn l D g H.size adN N x2 r5 hc5) (cwV 1 hts (lw_V q672 q673 q674 q77 q675) rfl rfl rfl (by decide +kernel) ⟨Nat.le_of_ble_eq_true rfl, Nat.le_of_ble_eq_true rfl⟩) (b_preV (pp := 1) (q := 0) hW hp5 rfl vW_0 rfl) rfl rfl hl.1 rfl (lv_room (Nat.le_of_ble_eq_true rfl)) dX0_called_12 ⟨Nat.le_of_ble_eq_true rfl, Nat.le_of_ble_eq_true rfl⟩) hW hp5 (fun _ _ H locs hW => ?_)
    have hW : bW D g A s H locs [vW g adN N, xW g adX (adN 0) (adT 0) iX X, vW g adT T, gW L kd nu aa] := hW
    refine lv_if_eq (tgt := 28) hx hb dX0_called_15 (by decide) (fun c6 => ?_) (fun c6 => ?_)
    · have hf := o_t hf c6
      refine lv_aload_n hx hb dX0_called_28 rfl (lv_at hl 0 rfl) ?_
      refine lv_bipush (v := (-2)) hx hb dX0_called_29 (by decide) ?_
      obtain ⟨r7, X8, hc8, hf⟩ := o_b2s hf
      have hp8 : List.Perm [vW g adN N, xW g adX (adN 0) (adT 0) iX X, vW g adT T, gW L kd nu aa] ([xW g adX (adN 0) (adT 0) iX X] ++ [vW g adN N, vW g adT T, gW L kd nu aa]) := b_perm [1] [0, 2, 3] 4 rfl rfl rfl rfl
      refine b_call0 ⟨rfl, rfl⟩ (va_runV (As := [.int (-2)]) (rest := []) ⟨hx, hb, hml, hown, hts⟩ (m_X0_noLow l D g H.size adX iX adN adT X (-2) r7 X8 hc8) (cwV 1 hts (lw_V q1126 q1128 qs18 q76 q1129) rfl rfl rfl (by decide +kernel) ⟨Nat.le_of_ble_eq_true rfl, Nat.le_of_ble_eq_true rfl⟩) (b_preV (pp := 1) (q := 0) hW hp8 rfl xW_0 rfl) rfl rfl hl.1 rfl (lv_room (Nat.le_of_ble_eq_true rfl)) dX0_called_31 ⟨Nat.le_of_ble_eq_true rfl, Nat.le_of_ble_eq_true rfl⟩) hW hp8 (fun _ _ H locs hW => ?_)
      have hW : bW D g A s H locs [xW g adX (adN 0) (adT 0) iX X8, vW g adN N, vW g adT T, gW L kd nu aa] := hW
      cases hf
      exact b_iret hx hb hr hlk hE hW () rfl trivial rfl dX0_called_34
    · have hf := o_f hf c6
      refine lv_iload_n hx hb dX0_called_18 rfl (lv_at hl 3 rfl) ?_
      refine lv_iconst (v := 0) hx hb dX0_called_19 (by decide) ?_
      refine lv_bipush (v := 100) hx hb dX0_called_20 (by decide) ?_
      obtain ⟨r9, hc9, hf⟩ := o_b1s hf
      have hp9 : List.Perm [vW g adN N, xW g adX (adN 0) (adT 0) iX X, vW g adT T, gW L kd nu aa] ([] ++ [vW g adN N, xW g adX (adN 0) (adT 0) iX X, vW g adT T, gW L kd nu aa]) := b_perm [] [0, 1, 2, 3] 4 rfl rfl rfl rfl
      refine b_call0 ⟨rfl, rfl⟩ (va_runS (As := [.int x3, .int 0, .int 100]) (rest := []) ⟨hx, hb, hml, hown, hts⟩ (m_X0_isIn l D g H.size x3 0 100 r9 hc9) (va_cwS 3 hts (lw_S q344 q345 q76 q346) rfl rfl rfl (by decide +kernel) ⟨Nat.le_of_ble_eq_true rfl, Nat.le_of_ble_eq_true rfl⟩) (b_preS hW hp9) rfl rfl hl.1 rfl (lv_room (Nat.le_of_ble_eq_true rfl)) dX0_called_22 ⟨Nat.le_of_ble_eq_true rfl, Nat.le_of_ble_eq_true rfl⟩) hW hp9 (fun _ _ H locs hW => ?_)
      have hW : bW D g A s H locs [vW g adN N, xW g adX (adN 0) (adT 0) iX X, vW g adT T, gW L kd nu aa] := hW
      refine lv_if_ne (tgt := 35) hx hb dX0_called_25 (by decide) (fun c10 => ?_) (fun c10 => ?_)
      · have hf := o_f hf c10
        refine lv_aload_n hx hb dX0_called_35 rfl (lv_at hl 0 rfl) ?_
        obtain ⟨T11, hc11, hf⟩ := o_b1s hf
        have hp11 : List.Perm [vW g adN N, xW g adX (adN 0) (adT 0) iX X, vW g adT T, gW L kd nu aa] ([xW g adX (adN 0) (adT 0) iX X, vW g adN N, vW g adT T, gW L kd nu aa] ++ []) := b_perm [1, 0, 2, 3] [] 4 rfl rfl rfl rfl
        refine b_call0 ⟨rfl, rfl⟩ (va_runV (As := []) (rest := []) ⟨hx, hb, hml, hown, hts⟩ (m_X0_tried l D g H.size adX iX adN adT X N T L kd nu aa T11 hc11) (cwV 0 hts (lw_V q1223 q1225 qs22 q76 q1226) rfl rfl rfl (by decide +kernel) ⟨Nat.le_of_ble_eq_true rfl, Nat.le_of_ble_eq_true rfl⟩) (b_preV (pp := 1) (q := 0) hW hp11 rfl xW_0 rfl) rfl rfl hl.1 rfl (lv_room (Nat.le_of_ble_eq_true rfl)) dX0_called_36 ⟨Nat.le_of_ble_eq_true rfl, Nat.le_of_ble_eq_true rfl⟩) hW hp11 (fun _ _ H locs hW => ?_)
        have hW : bW D g A s H locs [xW g adX (adN 0) (adT 0) iX X, vW g adN N, vW g adT T11, gW L kd nu aa] := hW
        refine lv_iload_n hx hb dX0_called_39 rfl (lv_at hl 1 rfl) ?_
        refine lv_iconst (v := (-1)) hx hb dX0_called_40 (by decide) ?_
        obtain ⟨r12, T13, hc13, hf⟩ := o_b2s hf
        have hp13 : List.Perm [xW g adX (adN 0) (adT 0) iX X, vW g adN N, vW g adT T11, gW L kd nu aa] ([vW g adT T11, gW L kd nu aa] ++ [xW g adX (adN 0) (adT 0) iX X, vW g adN N]) := b_perm [2, 3] [0, 1] 4 rfl rfl rfl rfl
        refine b_call0 ⟨rfl, rfl⟩ (va_runV (As := [.int x1, .int (-1)]) (rest := []) ⟨hx, hb, hml, hown, hts⟩ (m_X1_years l D g H.size adT fu T11 L kd nu aa x1 (-1) r12 T13 hc13) (cwV 2 hts (lw_V q1274 q1275 q1276 q77 q1277) rfl rfl rfl (by decide +kernel) ⟨Nat.le_of_ble_eq_true rfl, Nat.le_of_ble_eq_true rfl⟩) (b_preV (pp := 2) (q := 0) hW hp13 rfl vW_0 rfl) rfl rfl hl.1 rfl (lv_room (Nat.le_of_ble_eq_true rfl)) dX0_called_41 ⟨Nat.le_of_ble_eq_true rfl, Nat.le_of_ble_eq_true rfl⟩) hW hp13 (fun _ _ H locs hW => ?_)
        have hW : bW D g A s H locs [vW g adT T13, gW L kd nu aa, xW g adX (adN 0) (adT 0) iX X, vW g adN N] := hW
        refine lv_istore (lv' := [(4, .int r12), (0, .ref (adX 0)), (1, .int x1), (2, .int x2), (3, .int x3)]) hx hb dX0_called_44 hl (by decide) rfl (fun ls hl => ?_)
        refine lv_aload_n hx hb dX0_called_46 rfl (lv_at hl 1 rfl) ?_
        obtain ⟨T14, hc14, hf⟩ := o_b1s hf
        have hp14 : List.Perm [vW g adT T13, gW L kd nu aa, xW g adX (adN 0) (adT 0) iX X, vW g adN N] ([xW g adX (adN 0) (adT 0) iX X, vW g adN N, vW g adT T13, gW L kd nu aa] ++ []) := b_perm [2, 3, 0, 1] [] 4 rfl rfl rfl rfl
        refine b_call0 ⟨rfl, rfl⟩ (va_runV (As := []) (rest := []) ⟨hx, hb, hml, hown, hts⟩ (m_X0_tried l D g H.size adX iX adN adT X N T13 L kd nu aa T14 hc14) (cwV 0 hts (lw_V q1223 q1225 qs22 q76 q1226) rfl rfl rfl (by decide +kernel) ⟨Nat.le_of_ble_eq_true rfl, Nat.le_of_ble_eq_true rfl⟩) (b_preV (pp := 2) (q := 0) hW hp14 rfl xW_0 rfl) rfl rfl hl.1 rfl (lv_room (Nat.le_of_ble_eq_true rfl)) dX0_called_47 ⟨Nat.le_of_ble_eq_true rfl, Nat.le_of_ble_eq_true rfl⟩) hW hp14 (fun _ _ H locs hW => ?_)
        have hW : bW D g A s H locs [xW g adX (adN 0) (adT 0) iX X, vW g adN N, vW g adT T14, gW L kd nu aa] := hW
        refine lv_astore (lv' := [(5, .ref (adT 0)), (4, .int r12), (0, .ref (adX 0)), (1, .int x1), (2, .int x2), (3, .int x3)]) hx hb dX0_called_50 hl (by decide) rfl (fun ls hl => ?_)
        refine lv_aload hx hb dX0_called_52 (lv_at hl 0 rfl) ?_
        refine b_get hx hb hts in_X1 hown hW 2 0 1 4 rfl vW_0 rfl (by decide) ⟨rfl, rfl, rfl⟩ (hts _ q145) vW_g4 dX0_called_54 ?_
        refine lv_iload_n hx hb dX0_called_57 rfl (lv_at hl 4 rfl) ?_
        refine lv_iload_n hx hb dX0_called_58 rfl (lv_at hl 5 rfl) ?_
        obtain ⟨h15, hf⟩ := o_cs hf
        obtain ⟨T16, eT16, hf⟩ := o_ls hf
        refine b_iast hx hb hW 2 5 rfl vW_5 (vW_s5 eT16) rfl h15 dX0_called_59 (fun H locs hW => ?_)
        have hW : bW D g A s H locs [xW g adX (adN 0) (adT 0) iX X, vW g adN N, vW g adT T16, gW L kd nu aa] := hW
        refine lv_aload hx hb dX0_called_60 (lv_at hl 0 rfl) ?_
        refine lv_iload_n hx hb dX0_called_62 rfl (lv_at hl 3 rfl) ?_
        refine lv_iconst (v := (-1)) hx hb dX0_called_63 (by decide) ?_
        obtain ⟨r17, T18, hc18, hf⟩ := o_b2s hf
        have hp18 : List.Perm [xW g adX (adN 0) (adT 0) iX X, vW g adN N, vW g adT T16, gW L kd nu aa] ([vW g adT T16, gW L kd nu aa] ++ [xW g adX (adN 0) (adT 0) iX X, vW g adN N]) := b_perm [2, 3] [0, 1] 4 rfl rfl rfl rfl
        refine b_call0 ⟨rfl, rfl⟩ (va_runV (As := [.int x1, .int (-1)]) (rest := []) ⟨hx, hb, hml, hown, hts⟩ (m_X1_years l D g H.size adT fu T16 L kd nu aa x1 (-1) r17 T18 hc18) (cwV 2 hts (lw_V q1274 q1275 q1276 q77 q1277) rfl rfl rfl (by decide +kernel) ⟨Nat.le_of_ble_eq_true rfl, Nat.le_of_ble_eq_true rfl⟩) (b_preV (pp := 2) (q := 0) hW hp18 rfl vW_0 rfl) rfl rfl hl.1 rfl (lv_room (Nat.le_of_ble_eq_true rfl)) dX0_called_64 ⟨Nat.le_of_ble_eq_true rfl, Nat.le_of_ble_eq_true rfl⟩) hW hp18 (fun _ _ H locs hW => ?_)
        have hW : bW D g A s H locs [vW g adT T18, gW L kd nu aa, xW g adX (adN 0) (adT 0) iX X, vW g adN N] := hW
        refine lv_iload hx hb dX0_called_67 (lv_at hl 1 rfl) ?_
        refine lv_isub hx hb dX0_called_69 ?_
        cases hf
        exact b_iret hx hb hr hlk hE (b_perms hW (b_ord [2, 3, 0, 1] 4 rfl rfl rfl)) () rfl trivial rfl dX0_called_70
      · have hf := o_t hf c10
        refine lv_aload_n hx hb dX0_called_28 rfl (lv_at hl 0 rfl) ?_
        refine lv_bipush (v := (-2)) hx hb dX0_called_29 (by decide) ?_
        obtain ⟨r19, X20, hc20, hf⟩ := o_b2s hf
        have hp20 : List.Perm [vW g adN N, xW g adX (adN 0) (adT 0) iX X, vW g adT T, gW L kd nu aa] ([xW g adX (adN 0) (adT 0) iX X] ++ [vW g adN N, vW g adT T, gW L kd nu aa]) := b_perm [1] [0, 2, 3] 4 rfl rfl rfl rfl
        refine b_call0 ⟨rfl, rfl⟩ (va_runV (As := [.int (-2)]) (rest := []) ⟨hx, hb, hml, hown, hts⟩ (m_X0_noLow l D g H.size adX iX adN adT X (-2) r19 X20 hc20) (cwV 1 hts (lw_V q1126 q1128 qs18 q76 q1129) rfl rfl rfl (by decide +kernel) ⟨Nat.le_of_ble_eq_true rfl, Nat.le_of_ble_eq_true rfl⟩) (b_preV (pp := 1) (q := 0) hW hp20 rfl xW_0 rfl) rfl rfl hl.1 rfl (lv_room (Nat.le_of_ble_eq_true rfl)) dX0_called_31 ⟨Nat.le_of_ble_eq_true rfl, Nat.le_of_ble_eq_true rfl⟩) hW hp20 (fun _ _ H locs hW => ?_)
        have hW : bW D g A s H locs [xW g adX (adN 0) (adT 0) iX X20, vW g adN N, vW g adT T, gW L kd nu aa] := hW
        cases hf
        exact b_iret hx hb hr hlk hE hW () rfl trivial rfl dX0_called_34
def f_X0_spoilt_L36 (X : BC) (L : List Nat) (kd : Nat → Nat) (nu : Nat → Int32) (aa : Nat → Int32) (x1 : Int32) (x2 : Int32) (fu : Nat) (rec8 : (Int32 × BC) → Option (Int32 × BC × BC)) : Int32 × BC → Option (Int32 × BC × BC)
  | (v9, T10) =>
    (if (30 : Int32) < v9 then
     some ((-1), X, T10)
     else
     o_b1 (f_X1_night fu T10 L kd nu aa) fun (T12 : BC) =>
     o_b1 (f_X1_ages fu T12) fun (T13 : BC) =>
     o_ck (inB x1 6) ((if x2 ≤ (T13.1 1 (ix x1)) then
     o_lt (v9 + 1) fun (v16 : Int32) =>
     rec8 (v16, T13)
     else
     some (v9, X, T13))))
def f_X0_spoilt (fu : Nat) (X : BC) (N : BC) (T : BC) (L : List Nat) (kd : Nat → Nat) (nu : Nat → Int32) (aa : Nat → Int32) (x1 : Int32) (x2 : Int32) : Option (Int32 × BC × BC) :=
 o_b1 (f_X1_isInn N x1) fun (r1 : Int32) =>
 (if r1 = 0 then
 o_b2 (f_X0_no X (-2)) fun (r3 : Int32) (X4 : BC) =>
 some (r3, X4, T)
 else
 o_b1 (f_X0_isIn x2 0 100) fun (r5 : Int32) =>
 (if r5 = 0 then
 o_b2 (f_X0_no X (-2)) fun (r17 : Int32) (X18 : BC) =>
 some (r17, X18, T)
 else
 o_b1 (f_X0_tried X N T L kd nu aa) fun (T7 : BC) =>
 o_lp (f_X0_spoilt_L36 X L kd nu aa x1 x2 fu) fu (1, T7)))
abbrev rm_X0_spoilt : Room := { frames := 7, cells := 0, slots := 0, locals := 164 }
set_option maxHeartbeats 4000000 in
set_option maxRecDepth 100000 in
theorem m_X0_spoilt (l : Launch) (D : va_G) (g : Nat → ClassId) (sz : Nat) (adX : Nat → Nat) (iX : Option Nat) (adN : Nat → Nat) (adT : Nat → Nat) (fu : Nat) (X : BC) (N : BC) (T : BC) (L : List Nat) (kd : Nat → Nat) (nu : Nat → Int32) (aa : Nat → Int32) (x1 : Int32) (x2 : Int32) (rO : Int32) (XO : BC) (TO : BC) (hf : f_X0_spoilt fu X N T L kd nu aa x1 x2 = some (rO, XO, TO)) : bMet (S := Unit) l yX0_spoilt (ws_ yX0_spoilt cX0_spoilt 5 (some .int)) rm_X0_spoilt D g sz [.ref (adX 0), .int x1, .int x2] [xW g adX (adN 0) (adT 0) iX X, vW g adN N, vW g adT T, gW L kd nu aa] (fun _ => True) (fun _ => some (.int rO)) (fun _ => [xW g adX (adN 0) (adT 0) iX XO, vW g adN N, vW g adT TO, gW L kd nu aa]) := by
  refine b_met (by decide) (Nat.le_of_ble_eq_true rfl) ?_
  intro p e s m args below meth c A Q ls hx hb hml hr hlk hown hname hts hE hl hW
  revert hW; generalize s.heap = H; intro hW
  have hl : lv_has ls 5 [(0, .ref (adX 0)), (1, .int x1), (2, .int x2)] := hl
  rw [f_X0_spoilt] at hf
  refine lv_aload_n hx hb dX0_spoilt_0 rfl (lv_at hl 0 rfl) ?_
  refine b_get hx hb hts in_X0 hown hW 0 0 0 0 rfl xW_0 rfl (by decide) ⟨rfl, rfl, rfl⟩ (hts _ q227) xW_g0 dX0_spoilt_1 ?_
  refine lv_iload_n hx hb dX0_spoilt_4 rfl (lv_at hl 1 rfl) ?_
  obtain ⟨r1, hc1, hf⟩ := o_b1s hf
  have hp1 : List.Perm [xW g adX (adN 0) (adT 0) iX X, vW g adN N, vW g adT T, gW L kd nu aa] ([vW g adN N] ++ [xW g adX (adN 0) (adT 0) iX X, vW g adT T, gW L kd nu aa]) := b_perm [1] [0, 2, 3] 4 rfl rfl rfl rfl
  refine b_call0 ⟨rfl, rfl⟩ (va_runV (As := [.int x1]) (rest := []) ⟨hx, hb, hml, hown, hts⟩ (m_X1_isInn l D g H.size adN N x1 r1 hc1) (cwV 1 hts (lw_V q672 q673 q674 q77 q675) rfl rfl rfl (by decide +kernel) ⟨Nat.le_of_ble_eq_true rfl, Nat.le_of_ble_eq_true rfl⟩) (b_preV (pp := 1) (q := 0) hW hp1 rfl vW_0 rfl) rfl rfl hl.1 rfl (lv_room (Nat.le_of_ble_eq_true rfl)) dX0_spoilt_5 ⟨Nat.le_of_ble_eq_true rfl, Nat.le_of_ble_eq_true rfl⟩) hW hp1 (fun _ _ H locs hW => ?_)
  have hW : bW D g A s H locs [vW g adN N, xW g adX (adN 0) (adT 0) iX X, vW g adT T, gW L kd nu aa] := hW
  refine lv_if_eq (tgt := 21) hx hb dX0_spoilt_8 (by decide) (fun c2 => ?_) (fun c2 => ?_)
  · have hf := o_t hf c2
    refine lv_aload_n hx hb dX0_spoilt_21 rfl (lv_at hl 0 rfl) ?_
    refine lv_bipush (v := (-2)) hx hb dX0_spoilt_22 (by decide) ?_
    obtain ⟨r3, X4, hc4, hf⟩ := o_b2s hf
    have hp4 : List.Perm [vW g adN N, xW g adX (adN 0) (adT 0) iX X, vW g adT T, gW L kd nu aa] ([xW g adX (adN 0) (adT 0) iX X] ++ [vW g adN N, vW g adT T, gW L kd nu aa]) := b_perm [1] [0, 2, 3] 4 rfl rfl rfl rfl
    refine b_call0 ⟨rfl, rfl⟩ (va_runV (As := [.int (-2)]) (rest := []) ⟨hx, hb, hml, hown, hts⟩ (m_X0_no l D g H.size adX iX adN adT X (-2) r3 X4 hc4) (cwV 1 hts (lw_V q347 q349 qs2 q76 q350) rfl rfl rfl (by decide +kernel) ⟨Nat.le_of_ble_eq_true rfl, Nat.le_of_ble_eq_true rfl⟩) (b_preV (pp := 1) (q := 0) hW hp4 rfl xW_0 rfl) rfl rfl hl.1 rfl (lv_room (Nat.le_of_ble_eq_true rfl)) dX0_spoilt_24 ⟨Nat.le_of_ble_eq_true rfl, Nat.le_of_ble_eq_true rfl⟩) hW hp4 (fun _ _ H locs hW => ?_)
    have hW : bW D g A s H locs [xW g adX (adN 0) (adT 0) iX X4, vW g adN N, vW g adT T, gW L kd nu aa] := hW
    cases hf
    exact b_iret hx hb hr hlk hE hW () rfl trivial rfl dX0_spoilt_27
  · have hf := o_f hf c2
    refine lv_iload_n hx hb dX0_spoilt_11 rfl (lv_at hl 2 rfl) ?_
    refine lv_iconst (v := 0) hx hb dX0_spoilt_12 (by decide) ?_
    refine lv_bipush (v := 100) hx hb dX0_spoilt_13 (by decide) ?_
    obtain ⟨r5, hc5, hf⟩ := o_b1s hf
    have hp5 : List.Perm [vW g adN N, xW g adX (adN 0) (adT 0) iX X, vW g adT T, gW L kd nu aa] ([] ++ [vW g adN N, xW g adX (adN 0) (adT 0) iX X, vW g adT T, gW L kd nu aa]) := b_perm [] [0, 1, 2, 3] 4 rfl rfl rfl rfl
    refine b_call0 ⟨rfl, rfl⟩ (va_runS (As := [.int x2, .int 0, .int 100]) (rest := []) ⟨hx, hb, hml, hown, hts⟩ (m_X0_isIn l D g H.size x2 0 100 r5 hc5) (va_cwS 3 hts (lw_S q344 q345 q76 q346) rfl rfl rfl (by decide +kernel) ⟨Nat.le_of_ble_eq_true rfl, Nat.le_of_ble_eq_true rfl⟩) (b_preS hW hp5) rfl rfl hl.1 rfl (lv_room (Nat.le_of_ble_eq_true rfl)) dX0_spoilt_15 ⟨Nat.le_of_ble_eq_true rfl, Nat.le_of_ble_eq_true rfl⟩) hW hp5 (fun _ _ H locs hW => ?_)
    have hW : bW D g A s H locs [vW g adN N, xW g adX (adN 0) (adT 0) iX X, vW g adT T, gW L kd nu aa] := hW
    refine lv_if_ne (tgt := 28) hx hb dX0_spoilt_18 (by decide) (fun c6 => ?_) (fun c6 => ?_)
    · have hf := o_f hf c6
      refine lv_aload_n hx hb dX0_spoilt_28 rfl (lv_at hl 0 rfl) ?_
      obtain ⟨T7, hc7, hf⟩ := o_b1s hf
      have hp7 : List.Perm [vW g adN N, xW g adX (adN 0) (adT 0) iX X, vW g adT T, gW L kd nu aa] ([xW g adX (adN 0) (adT 0) iX X, vW g adN N, vW g adT T, gW L kd nu aa] ++ []) := b_perm [1, 0, 2, 3] [] 4 rfl rfl rfl rfl
      refine b_call0 ⟨rfl, rfl⟩ (va_runV (As := []) (rest := []) ⟨hx, hb, hml, hown, hts⟩ (m_X0_tried l D g H.size adX iX adN adT X N T L kd nu aa T7 hc7) (cwV 0 hts (lw_V q1223 q1225 qs22 q76 q1226) rfl rfl rfl (by decide +kernel) ⟨Nat.le_of_ble_eq_true rfl, Nat.le_of_ble_eq_true rfl⟩) (b_preV (pp := 1) (q := 0) hW hp7 rfl xW_0 rfl) rfl rfl hl.1 rfl (lv_room (Nat.le_of_ble_eq_true rfl)) dX0_spoilt_29 ⟨Nat.le_of_ble_eq_true rfl, Nat.le_of_ble_eq_true rfl⟩) hW hp7 (fun _ _ H locs hW => ?_)
      have hW : bW D g A s H locs [xW g adX (adN 0) (adT 0) iX X, vW g adN N, vW g adT T7, gW L kd nu aa] := hW
      refine lv_astore_n (lv' := [(3, .ref (adT 0)), (0, .ref (adX 0)), (1, .int x1), (2, .int x2)]) hx hb dX0_spoilt_32 rfl hl (by decide) rfl (fun ls hl => ?_)
      refine lv_iconst (v := 1) hx hb dX0_spoilt_33 (by decide) ?_
      refine lv_istore (lv' := [(4, .int 1), (3, .ref (adT 0)), (0, .ref (adX 0)), (1, .int x1), (2, .int x2)]) hx hb dX0_spoilt_34 hl (by decide) rfl (fun ls hl => ?_)
      obtain ⟨stp8, est8, hf⟩ := o_ln hf
      have L8 : ∀ (n : Nat) (v9 : Int32) (T10 : BC) (H : Heap) (locs : List Loc) (ls : Array Slot), bW D g A s H locs [xW g adX (adN 0) (adT 0) iX X, vW g adN N, vW g adT T10, gW L kd nu aa] → lv_has ls 5 [(4, .int v9), (3, .ref (adT 0)), (1, .int x1), (2, .int x2)] → o_lp stp8 n (v9, T10) = some (rO, XO, TO) → W p l e rm_X0_spoilt s m args below meth c H locs 0 0 Q (F0 m 36 ls []) := by
        intro n8
        induction n8 with
        | zero => intro v9 T10 H locs ls hW hl hf; exact (o_lz hf).elim
        | succ n8 ih8 =>
          intro v9 T10 H locs ls hW hl hf
          have hf := o_lu est8 hf
          rw [f_X0_spoilt_L36] at hf
          refine lv_iload hx hb dX0_spoilt_36 (lv_at hl 0 rfl) ?_
          refine lv_bipush (v := 30) hx hb dX0_spoilt_38 (by decide) ?_
          refine lv_icmp_gt (tgt := 69) hx hb dX0_spoilt_40 (by decide) (fun c11 => ?_) (fun c11 => ?_)
          · have hf := o_t hf c11
            refine lv_iconst (v := (-1)) hx hb dX0_spoilt_69 (by decide) ?_
            cases hf
            exact b_iret hx hb hr hlk hE hW () rfl trivial rfl dX0_spoilt_70
          · have hf := o_f hf c11
            refine lv_aload_n hx hb dX0_spoilt_43 rfl (lv_at hl 1 rfl) ?_
            obtain ⟨T12, hc12, hf⟩ := o_b1s hf
            have hp12 : List.Perm [xW g adX (adN 0) (adT 0) iX X, vW g adN N, vW g adT T10, gW L kd nu aa] ([vW g adT T10, gW L kd nu aa] ++ [xW g adX (adN 0) (adT 0) iX X, vW g adN N]) := b_perm [2, 3] [0, 1] 4 rfl rfl rfl rfl
            refine b_call0 ⟨rfl, rfl⟩ (va_runV (As := []) (rest := []) ⟨hx, hb, hml, hown, hts⟩ (m_X1_night l D g H.size adT fu T10 L kd nu aa T12 hc12) (cwV 0 hts (lw_V q1135 q1136 q1137 q77 q1138) rfl rfl rfl (by decide +kernel) ⟨Nat.le_of_ble_eq_true rfl, Nat.le_of_ble_eq_true rfl⟩) (b_preV (pp := 2) (q := 0) hW hp12 rfl vW_0 rfl) rfl rfl hl.1 rfl (lv_room (Nat.le_of_ble_eq_true rfl)) dX0_spoilt_44 ⟨Nat.le_of_ble_eq_true rfl, Nat.le_of_ble_eq_true rfl⟩) hW hp12 (fun _ _ H locs hW => ?_)
            have hW : bW D g A s H locs [vW g adT T12, gW L kd nu aa, xW g adX (adN 0) (adT 0) iX X, vW g adN N] := hW
            obtain ⟨T13, hc13, hf⟩ := o_b1s hf
            have hp13 : List.Perm [vW g adT T12, gW L kd nu aa, xW g adX (adN 0) (adT 0) iX X, vW g adN N] ([vW g adT T12] ++ [gW L kd nu aa, xW g adX (adN 0) (adT 0) iX X, vW g adN N]) := b_perm [0] [1, 2, 3] 4 rfl rfl rfl rfl
            refine b_call0 ⟨rfl, rfl⟩ (va_runV (As := []) (rest := []) ⟨hx, hb, hml, hown, hts⟩ (m_X1_ages l D g H.size adT fu T12 T13 hc13) (cwV 0 hts (lw_V q1297 q1281 q1282 q77 q1283) rfl rfl rfl (by decide +kernel) ⟨Nat.le_of_ble_eq_true rfl, Nat.le_of_ble_eq_true rfl⟩) (b_preV (pp := 0) (q := 0) hW hp13 rfl vW_0 rfl) rfl rfl hl.1 rfl (lv_room (Nat.le_of_ble_eq_true rfl)) dX0_spoilt_47 ⟨Nat.le_of_ble_eq_true rfl, Nat.le_of_ble_eq_true rfl⟩) hW hp13 (fun _ _ H locs hW => ?_)
            have hW : bW D g A s H locs [vW g adT T13, gW L kd nu aa, xW g adX (adN 0) (adT 0) iX X, vW g adN N] := hW
            refine lv_aload_n hx hb dX0_spoilt_50 rfl (lv_at hl 1 rfl) ?_
            refine b_get hx hb hts in_X1 hown hW 0 0 1 0 rfl vW_0 rfl (by decide) ⟨rfl, rfl, rfl⟩ (hts _ q131) vW_g0 dX0_spoilt_51 ?_
            refine lv_iload_n hx hb dX0_spoilt_54 rfl (lv_at hl 2 rfl) ?_
            obtain ⟨h14, hf⟩ := o_cs hf
            refine b_iald hx hb hW 0 1 rfl vW_1 h14 dX0_spoilt_55 ?_
            refine lv_iload_n hx hb dX0_spoilt_56 rfl (lv_at hl 3 rfl) ?_
            refine lv_icmp_ge (tgt := 63) hx hb dX0_spoilt_57 (by decide) (fun c15 => ?_) (fun c15 => ?_)
            · have hf := o_t hf c15
              obtain ⟨v16, ev16, hf⟩ := o_ls hf
              refine lv_iinc (v := v16) (lv' := [(4, .int v16), (3, .ref (adT 0)), (1, .int x1), (2, .int x2)]) hx hb dX0_spoilt_63 hl (k := 0) rfl ev16 (by decide) rfl (fun ls hl => ?_)
              refine lv_goto (tgt := 36) hx hb dX0_spoilt_66 (by decide) ?_
              exact ih8 _ _ _ _ _ (b_perms hW (b_ord [2, 3, 0, 1] 4 rfl rfl rfl)) (lv_sub hl [0, 1, 2, 3] rfl) hf
            · have hf := o_f hf c15
              refine lv_iload hx hb dX0_spoilt_60 (lv_at hl 0 rfl) ?_
              cases hf
              exact b_iret hx hb hr hlk hE (b_perms hW (b_ord [2, 3, 0, 1] 4 rfl rfl rfl)) () rfl trivial rfl dX0_spoilt_62
      exact L8 _ _ _ _ _ _ hW (lv_sub hl [0, 1, 3, 4] rfl) hf
    · have hf := o_t hf c6
      refine lv_aload_n hx hb dX0_spoilt_21 rfl (lv_at hl 0 rfl) ?_
      refine lv_bipush (v := (-2)) hx hb dX0_spoilt_22 (by decide) ?_
      obtain ⟨r17, X18, hc18, hf⟩ := o_b2s hf
      have hp18 : List.Perm [vW g adN N, xW g adX (adN 0) (adT 0) iX X, vW g adT T, gW L kd nu aa] ([xW g adX (adN 0) (adT 0) iX X] ++ [vW g adN N, vW g adT T, gW L kd nu aa]) := b_perm [1] [0, 2, 3] 4 rfl rfl rfl rfl
      refine b_call0 ⟨rfl, rfl⟩ (va_runV (As := [.int (-2)]) (rest := []) ⟨hx, hb, hml, hown, hts⟩ (m_X0_no l D g H.size adX iX adN adT X (-2) r17 X18 hc18) (cwV 1 hts (lw_V q347 q349 qs2 q76 q350) rfl rfl rfl (by decide +kernel) ⟨Nat.le_of_ble_eq_true rfl, Nat.le_of_ble_eq_true rfl⟩) (b_preV (pp := 1) (q := 0) hW hp18 rfl xW_0 rfl) rfl rfl hl.1 rfl (lv_room (Nat.le_of_ble_eq_true rfl)) dX0_spoilt_24 ⟨Nat.le_of_ble_eq_true rfl, Nat.le_of_ble_eq_true rfl⟩) hW hp18 (fun _ _ H locs hW => ?_)
      have hW : bW D g A s H locs [xW g adX (adN 0) (adT 0) iX X18, vW g adN N, vW g adT T, gW L kd nu aa] := hW
      cases hf
      exact b_iret hx hb hr hlk hE hW () rfl trivial rfl dX0_spoilt_27
def f_X0_bears_L48 (X : BC) (N : BC) (L : List Nat) (kd : Nat → Nat) (nu : Nat → Int32) (aa : Nat → Int32) (x1 : Int32) (x2 : Int32) (x3 : Int32) (x4 : Int32) (fu : Nat) (rec15 : (Int32 × BC) → Option (Int32 × BC × BC)) : Int32 × BC → Option (Int32 × BC × BC)
  | (v16, T17) =>
    (if v16 ≤ 0 then
     some ((-1), X, T17)
     else
     o_b1 (f_X0_tried X N T17 L kd nu aa) fun (T19 : BC) =>
     o_ck (inB x1 6) (o_lt (bI T19 9 (upd (T19.1 9) (ix x1) v16)) fun (T21 : BC) =>
     o_b2 (f_X0_stays fu T21 L kd nu aa x3 x2 x4) fun (r22 : Int32) (T23 : BC) =>
     (if r22 = 0 then
     o_lt (v16 + (-1)) fun (v25 : Int32) =>
     rec15 (v25, T23)
     else
     some (v16, X, T23))))
def f_X0_bears (fu : Nat) (X : BC) (N : BC) (T : BC) (L : List Nat) (kd : Nat → Nat) (nu : Nat → Int32) (aa : Nat → Int32) (x1 : Int32) (x2 : Int32) (x3 : Int32) (x4 : Int32) : Option (Int32 × BC × BC) :=
 o_b1 (f_X0_isGoer X N x1) fun (r1 : Int32) =>
 (if r1 = 0 then
 o_b2 (f_X0_no X (-2)) fun (r3 : Int32) (X4 : BC) =>
 some (r3, X4, T)
 else
 o_b1 (f_X1_isInn N x2) fun (r5 : Int32) =>
 (if r5 = 0 then
 o_b2 (f_X0_no X (-2)) fun (r7 : Int32) (X8 : BC) =>
 some (r7, X8, T)
 else
 o_b1 (f_X0_isYears x3) fun (r9 : Int32) =>
 (if r9 = 0 then
 o_b2 (f_X0_no X (-2)) fun (r11 : Int32) (X12 : BC) =>
 some (r11, X12, T)
 else
 o_b1 (f_X0_isIn x4 0 100) fun (r13 : Int32) =>
 (if r13 = 0 then
 o_b2 (f_X0_no X (-2)) fun (r26 : Int32) (X27 : BC) =>
 some (r26, X27, T)
 else
 o_lp (f_X0_bears_L48 X N L kd nu aa x1 x2 x3 x4 fu) fu (30, T)))))
abbrev rm_X0_bears : Room := { frames := 8, cells := 0, slots := 0, locals := 188 }
set_option maxHeartbeats 4000000 in
set_option maxRecDepth 100000 in
theorem m_X0_bears (l : Launch) (D : va_G) (g : Nat → ClassId) (sz : Nat) (adX : Nat → Nat) (iX : Option Nat) (adN : Nat → Nat) (adT : Nat → Nat) (fu : Nat) (X : BC) (N : BC) (T : BC) (L : List Nat) (kd : Nat → Nat) (nu : Nat → Int32) (aa : Nat → Int32) (x1 : Int32) (x2 : Int32) (x3 : Int32) (x4 : Int32) (rO : Int32) (XO : BC) (TO : BC) (hf : f_X0_bears fu X N T L kd nu aa x1 x2 x3 x4 = some (rO, XO, TO)) : bMet (S := Unit) l yX0_bears (ws_ yX0_bears cX0_bears 7 (some .int)) rm_X0_bears D g sz [.ref (adX 0), .int x1, .int x2, .int x3, .int x4] [xW g adX (adN 0) (adT 0) iX X, vW g adN N, vW g adT T, gW L kd nu aa] (fun _ => True) (fun _ => some (.int rO)) (fun _ => [xW g adX (adN 0) (adT 0) iX XO, vW g adN N, vW g adT TO, gW L kd nu aa]) := by
  refine b_met (by decide) (Nat.le_of_ble_eq_true rfl) ?_
  intro p e s m args below meth c A Q ls hx hb hml hr hlk hown hname hts hE hl hW
  revert hW; generalize s.heap = H; intro hW
  have hl : lv_has ls 7 [(0, .ref (adX 0)), (1, .int x1), (2, .int x2), (3, .int x3), (4, .int x4)] := hl
  rw [f_X0_bears] at hf
  refine lv_aload_n hx hb dX0_bears_0 rfl (lv_at hl 0 rfl) ?_
  refine lv_iload_n hx hb dX0_bears_1 rfl (lv_at hl 1 rfl) ?_
  obtain ⟨r1, hc1, hf⟩ := o_b1s hf
  have hp1 : List.Perm [xW g adX (adN 0) (adT 0) iX X, vW g adN N, vW g adT T, gW L kd nu aa] ([xW g adX (adN 0) (adT 0) iX X, vW g adN N] ++ [vW g adT T, gW L kd nu aa]) := b_perm [0, 1] [2, 3] 4 rfl rfl rfl rfl
  refine b_call0 ⟨rfl, rfl⟩ (va_runV (As := [.int x1]) (rest := []) ⟨hx, hb, hml, hown, hts⟩ (m_X0_isGoer l D g H.size adX iX adN adT X N x1 r1 hc1) (cwV 1 hts (lw_V q485 q487 qs4 q76 q488) rfl rfl rfl (by decide +kernel) ⟨Nat.le_of_ble_eq_true rfl, Nat.le_of_ble_eq_true rfl⟩) (b_preV (pp := 0) (q := 0) hW hp1 rfl xW_0 rfl) rfl rfl hl.1 rfl (lv_room (Nat.le_of_ble_eq_true rfl)) dX0_bears_2 ⟨Nat.le_of_ble_eq_true rfl, Nat.le_of_ble_eq_true rfl⟩) hW hp1 (fun _ _ H locs hW => ?_)
  have hW : bW D g A s H locs [xW g adX (adN 0) (adT 0) iX X, vW g adN N, vW g adT T, gW L kd nu aa] := hW
  refine lv_if_eq (tgt := 37) hx hb dX0_bears_5 (by decide) (fun c2 => ?_) (fun c2 => ?_)
  · have hf := o_t hf c2
    refine lv_aload_n hx hb dX0_bears_37 rfl (lv_at hl 0 rfl) ?_
    refine lv_bipush (v := (-2)) hx hb dX0_bears_38 (by decide) ?_
    obtain ⟨r3, X4, hc4, hf⟩ := o_b2s hf
    have hp4 : List.Perm [xW g adX (adN 0) (adT 0) iX X, vW g adN N, vW g adT T, gW L kd nu aa] ([xW g adX (adN 0) (adT 0) iX X] ++ [vW g adN N, vW g adT T, gW L kd nu aa]) := b_perm [0] [1, 2, 3] 4 rfl rfl rfl rfl
    refine b_call0 ⟨rfl, rfl⟩ (va_runV (As := [.int (-2)]) (rest := []) ⟨hx, hb, hml, hown, hts⟩ (m_X0_no l D g H.size adX iX adN adT X (-2) r3 X4 hc4) (cwV 1 hts (lw_V q347 q349 qs2 q76 q350) rfl rfl rfl (by decide +kernel) ⟨Nat.le_of_ble_eq_true rfl, Nat.le_of_ble_eq_true rfl⟩) (b_preV (pp := 0) (q := 0) hW hp4 rfl xW_0 rfl) rfl rfl hl.1 rfl (lv_room (Nat.le_of_ble_eq_true rfl)) dX0_bears_40 ⟨Nat.le_of_ble_eq_true rfl, Nat.le_of_ble_eq_true rfl⟩) hW hp4 (fun _ _ H locs hW => ?_)
    have hW : bW D g A s H locs [xW g adX (adN 0) (adT 0) iX X4, vW g adN N, vW g adT T, gW L kd nu aa] := hW
    cases hf
    exact b_iret hx hb hr hlk hE hW () rfl trivial rfl dX0_bears_43
  · have hf := o_f hf c2
    refine lv_aload_n hx hb dX0_bears_8 rfl (lv_at hl 0 rfl) ?_
    refine b_get hx hb hts in_X0 hown hW 0 0 0 0 rfl xW_0 rfl (by decide) ⟨rfl, rfl, rfl⟩ (hts _ q227) xW_g0 dX0_bears_9 ?_
    refine lv_iload_n hx hb dX0_bears_12 rfl (lv_at hl 2 rfl) ?_
    obtain ⟨r5, hc5, hf⟩ := o_b1s hf
    have hp5 : List.Perm [xW g adX (adN 0) (adT 0) iX X, vW g adN N, vW g adT T, gW L kd nu aa] ([vW g adN N] ++ [xW g adX (adN 0) (adT 0) iX X, vW g adT T, gW L kd nu aa]) := b_perm [1] [0, 2, 3] 4 rfl rfl rfl rfl
    refine b_call0 ⟨rfl, rfl⟩ (va_runV (As := [.int x2]) (rest := []) ⟨hx, hb, hml, hown, hts⟩ (m_X1_isInn l D g H.size adN N x2 r5 hc5) (cwV 1 hts (lw_V q672 q673 q674 q77 q675) rfl rfl rfl (by decide +kernel) ⟨Nat.le_of_ble_eq_true rfl, Nat.le_of_ble_eq_true rfl⟩) (b_preV (pp := 1) (q := 0) hW hp5 rfl vW_0 rfl) rfl rfl hl.1 rfl (lv_room (Nat.le_of_ble_eq_true rfl)) dX0_bears_13 ⟨Nat.le_of_ble_eq_true rfl, Nat.le_of_ble_eq_true rfl⟩) hW hp5 (fun _ _ H locs hW => ?_)
    have hW : bW D g A s H locs [vW g adN N, xW g adX (adN 0) (adT 0) iX X, vW g adT T, gW L kd nu aa] := hW
    refine lv_if_eq (tgt := 37) hx hb dX0_bears_16 (by decide) (fun c6 => ?_) (fun c6 => ?_)
    · have hf := o_t hf c6
      refine lv_aload_n hx hb dX0_bears_37 rfl (lv_at hl 0 rfl) ?_
      refine lv_bipush (v := (-2)) hx hb dX0_bears_38 (by decide) ?_
      obtain ⟨r7, X8, hc8, hf⟩ := o_b2s hf
      have hp8 : List.Perm [vW g adN N, xW g adX (adN 0) (adT 0) iX X, vW g adT T, gW L kd nu aa] ([xW g adX (adN 0) (adT 0) iX X] ++ [vW g adN N, vW g adT T, gW L kd nu aa]) := b_perm [1] [0, 2, 3] 4 rfl rfl rfl rfl
      refine b_call0 ⟨rfl, rfl⟩ (va_runV (As := [.int (-2)]) (rest := []) ⟨hx, hb, hml, hown, hts⟩ (m_X0_no l D g H.size adX iX adN adT X (-2) r7 X8 hc8) (cwV 1 hts (lw_V q347 q349 qs2 q76 q350) rfl rfl rfl (by decide +kernel) ⟨Nat.le_of_ble_eq_true rfl, Nat.le_of_ble_eq_true rfl⟩) (b_preV (pp := 1) (q := 0) hW hp8 rfl xW_0 rfl) rfl rfl hl.1 rfl (lv_room (Nat.le_of_ble_eq_true rfl)) dX0_bears_40 ⟨Nat.le_of_ble_eq_true rfl, Nat.le_of_ble_eq_true rfl⟩) hW hp8 (fun _ _ H locs hW => ?_)
      have hW : bW D g A s H locs [xW g adX (adN 0) (adT 0) iX X8, vW g adN N, vW g adT T, gW L kd nu aa] := hW
      cases hf
      exact b_iret hx hb hr hlk hE hW () rfl trivial rfl dX0_bears_43
    · have hf := o_f hf c6
      refine lv_iload_n hx hb dX0_bears_19 rfl (lv_at hl 3 rfl) ?_
      obtain ⟨r9, hc9, hf⟩ := o_b1s hf
      have hp9 : List.Perm [vW g adN N, xW g adX (adN 0) (adT 0) iX X, vW g adT T, gW L kd nu aa] ([] ++ [vW g adN N, xW g adX (adN 0) (adT 0) iX X, vW g adT T, gW L kd nu aa]) := b_perm [] [0, 1, 2, 3] 4 rfl rfl rfl rfl
      refine b_call0 ⟨rfl, rfl⟩ (va_runS (As := [.int x3]) (rest := []) ⟨hx, hb, hml, hown, hts⟩ (m_X0_isYears l D g H.size x3 r9 hc9) (va_cwS 1 hts (lw_S q1271 q1272 q76 q1273) rfl rfl rfl (by decide +kernel) ⟨Nat.le_of_ble_eq_true rfl, Nat.le_of_ble_eq_true rfl⟩) (b_preS hW hp9) rfl rfl hl.1 rfl (lv_room (Nat.le_of_ble_eq_true rfl)) dX0_bears_20 ⟨Nat.le_of_ble_eq_true rfl, Nat.le_of_ble_eq_true rfl⟩) hW hp9 (fun _ _ H locs hW => ?_)
      have hW : bW D g A s H locs [vW g adN N, xW g adX (adN 0) (adT 0) iX X, vW g adT T, gW L kd nu aa] := hW
      refine lv_if_eq (tgt := 37) hx hb dX0_bears_23 (by decide) (fun c10 => ?_) (fun c10 => ?_)
      · have hf := o_t hf c10
        refine lv_aload_n hx hb dX0_bears_37 rfl (lv_at hl 0 rfl) ?_
        refine lv_bipush (v := (-2)) hx hb dX0_bears_38 (by decide) ?_
        obtain ⟨r11, X12, hc12, hf⟩ := o_b2s hf
        have hp12 : List.Perm [vW g adN N, xW g adX (adN 0) (adT 0) iX X, vW g adT T, gW L kd nu aa] ([xW g adX (adN 0) (adT 0) iX X] ++ [vW g adN N, vW g adT T, gW L kd nu aa]) := b_perm [1] [0, 2, 3] 4 rfl rfl rfl rfl
        refine b_call0 ⟨rfl, rfl⟩ (va_runV (As := [.int (-2)]) (rest := []) ⟨hx, hb, hml, hown, hts⟩ (m_X0_no l D g H.size adX iX adN adT X (-2) r11 X12 hc12) (cwV 1 hts (lw_V q347 q349 qs2 q76 q350) rfl rfl rfl (by decide +kernel) ⟨Nat.le_of_ble_eq_true rfl, Nat.le_of_ble_eq_true rfl⟩) (b_preV (pp := 1) (q := 0) hW hp12 rfl xW_0 rfl) rfl rfl hl.1 rfl (lv_room (Nat.le_of_ble_eq_true rfl)) dX0_bears_40 ⟨Nat.le_of_ble_eq_true rfl, Nat.le_of_ble_eq_true rfl⟩) hW hp12 (fun _ _ H locs hW => ?_)
        have hW : bW D g A s H locs [xW g adX (adN 0) (adT 0) iX X12, vW g adN N, vW g adT T, gW L kd nu aa] := hW
        cases hf
        exact b_iret hx hb hr hlk hE hW () rfl trivial rfl dX0_bears_43
      · have hf := o_f hf c10
        refine lv_iload hx hb dX0_bears_26 (lv_at hl 4 rfl) ?_
        refine lv_iconst (v := 0) hx hb dX0_bears_28 (by decide) ?_
        refine lv_bipush (v := 100) hx hb dX0_bears_29 (by decide) ?_
        obtain ⟨r13, hc13, hf⟩ := o_b1s hf
        have hp13 : List.Perm [vW g adN N, xW g adX (adN 0) (adT 0) iX X, vW g adT T, gW L kd nu aa] ([] ++ [vW g adN N, xW g adX (adN 0) (adT 0) iX X, vW g adT T, gW L kd nu aa]) := b_perm [] [0, 1, 2, 3] 4 rfl rfl rfl rfl
        refine b_call0 ⟨rfl, rfl⟩ (va_runS (As := [.int x4, .int 0, .int 100]) (rest := []) ⟨hx, hb, hml, hown, hts⟩ (m_X0_isIn l D g H.size x4 0 100 r13 hc13) (va_cwS 3 hts (lw_S q344 q345 q76 q346) rfl rfl rfl (by decide +kernel) ⟨Nat.le_of_ble_eq_true rfl, Nat.le_of_ble_eq_true rfl⟩) (b_preS hW hp13) rfl rfl hl.1 rfl (lv_room (Nat.le_of_ble_eq_true rfl)) dX0_bears_31 ⟨Nat.le_of_ble_eq_true rfl, Nat.le_of_ble_eq_true rfl⟩) hW hp13 (fun _ _ H locs hW => ?_)
        have hW : bW D g A s H locs [vW g adN N, xW g adX (adN 0) (adT 0) iX X, vW g adT T, gW L kd nu aa] := hW
        refine lv_if_ne (tgt := 44) hx hb dX0_bears_34 (by decide) (fun c14 => ?_) (fun c14 => ?_)
        · have hf := o_f hf c14
          refine lv_bipush (v := 30) hx hb dX0_bears_44 (by decide) ?_
          refine lv_istore (lv' := [(5, .int 30), (0, .ref (adX 0)), (1, .int x1), (2, .int x2), (3, .int x3), (4, .int x4)]) hx hb dX0_bears_46 hl (by decide) rfl (fun ls hl => ?_)
          obtain ⟨stp15, est15, hf⟩ := o_ln hf
          have L15 : ∀ (n : Nat) (v16 : Int32) (T17 : BC) (H : Heap) (locs : List Loc) (ls : Array Slot), bW D g A s H locs [vW g adN N, xW g adX (adN 0) (adT 0) iX X, vW g adT T17, gW L kd nu aa] → lv_has ls 7 [(5, .int v16), (0, .ref (adX 0)), (1, .int x1), (2, .int x2), (3, .int x3), (4, .int x4)] → o_lp stp15 n (v16, T17) = some (rO, XO, TO) → W p l e rm_X0_bears s m args below meth c H locs 0 0 Q (F0 m 48 ls []) := by
            intro n15
            induction n15 with
            | zero => intro v16 T17 H locs ls hW hl hf; exact (o_lz hf).elim
            | succ n15 ih15 =>
              intro v16 T17 H locs ls hW hl hf
              have hf := o_lu est15 hf
              rw [f_X0_bears_L48] at hf
              refine lv_iload hx hb dX0_bears_48 (lv_at hl 0 rfl) ?_
              refine lv_if_le (tgt := 89) hx hb dX0_bears_50 (by decide) (fun c18 => ?_) (fun c18 => ?_)
              · have hf := o_t hf c18
                refine lv_iconst (v := (-1)) hx hb dX0_bears_89 (by decide) ?_
                cases hf
                exact b_iret hx hb hr hlk hE (b_perms hW (b_ord [1, 0, 2, 3] 4 rfl rfl rfl)) () rfl trivial rfl dX0_bears_90
              · have hf := o_f hf c18
                refine lv_aload_n hx hb dX0_bears_53 rfl (lv_at hl 1 rfl) ?_
                obtain ⟨T19, hc19, hf⟩ := o_b1s hf
                have hp19 : List.Perm [vW g adN N, xW g adX (adN 0) (adT 0) iX X, vW g adT T17, gW L kd nu aa] ([xW g adX (adN 0) (adT 0) iX X, vW g adN N, vW g adT T17, gW L kd nu aa] ++ []) := b_perm [1, 0, 2, 3] [] 4 rfl rfl rfl rfl
                refine b_call0 ⟨rfl, rfl⟩ (va_runV (As := []) (rest := []) ⟨hx, hb, hml, hown, hts⟩ (m_X0_tried l D g H.size adX iX adN adT X N T17 L kd nu aa T19 hc19) (cwV 0 hts (lw_V q1223 q1225 qs22 q76 q1226) rfl rfl rfl (by decide +kernel) ⟨Nat.le_of_ble_eq_true rfl, Nat.le_of_ble_eq_true rfl⟩) (b_preV (pp := 1) (q := 0) hW hp19 rfl xW_0 rfl) rfl rfl hl.1 rfl (lv_room (Nat.le_of_ble_eq_true rfl)) dX0_bears_54 ⟨Nat.le_of_ble_eq_true rfl, Nat.le_of_ble_eq_true rfl⟩) hW hp19 (fun _ _ H locs hW => ?_)
                have hW : bW D g A s H locs [xW g adX (adN 0) (adT 0) iX X, vW g adN N, vW g adT T19, gW L kd nu aa] := hW
                refine lv_astore (lv' := [(6, .ref (adT 0)), (5, .int v16), (0, .ref (adX 0)), (1, .int x1), (2, .int x2), (3, .int x3), (4, .int x4)]) hx hb dX0_bears_57 hl (by decide) rfl (fun ls hl => ?_)
                refine lv_aload hx hb dX0_bears_59 (lv_at hl 0 rfl) ?_
                refine b_get hx hb hts in_X1 hown hW 2 0 1 8 rfl vW_0 rfl (by decide) ⟨rfl, rfl, rfl⟩ (hts _ q156) vW_g8 dX0_bears_61 ?_
                refine lv_iload_n hx hb dX0_bears_64 rfl (lv_at hl 3 rfl) ?_
                refine lv_iload hx hb dX0_bears_65 (lv_at hl 1 rfl) ?_
                obtain ⟨h20, hf⟩ := o_cs hf
                obtain ⟨T21, eT21, hf⟩ := o_ls hf
                refine b_iast hx hb hW 2 9 rfl vW_9 (vW_s9 eT21) rfl h20 dX0_bears_67 (fun H locs hW => ?_)
                have hW : bW D g A s H locs [xW g adX (adN 0) (adT 0) iX X, vW g adN N, vW g adT T21, gW L kd nu aa] := hW
                refine lv_aload hx hb dX0_bears_68 (lv_at hl 0 rfl) ?_
                refine lv_iload_n hx hb dX0_bears_70 rfl (lv_at hl 5 rfl) ?_
                refine lv_iload_n hx hb dX0_bears_71 rfl (lv_at hl 4 rfl) ?_
                refine lv_iload hx hb dX0_bears_72 (lv_at hl 6 rfl) ?_
                obtain ⟨r22, T23, hc23, hf⟩ := o_b2s hf
                have hp23 : List.Perm [xW g adX (adN 0) (adT 0) iX X, vW g adN N, vW g adT T21, gW L kd nu aa] ([vW g adT T21, gW L kd nu aa] ++ [xW g adX (adN 0) (adT 0) iX X, vW g adN N]) := b_perm [2, 3] [0, 1] 4 rfl rfl rfl rfl
                refine b_call0 ⟨rfl, rfl⟩ (va_runS (As := [.ref (adT 0), .int x3, .int x2, .int x4]) (rest := []) ⟨hx, hb, hml, hown, hts⟩ (m_X0_stays l D g H.size adT fu T21 L kd nu aa x3 x2 x4 r22 T23 hc23) (va_cwS 4 hts (lw_S q1385 q1386 q76 q1387) rfl rfl rfl (by decide +kernel) ⟨Nat.le_of_ble_eq_true rfl, Nat.le_of_ble_eq_true rfl⟩) (b_preS hW hp23) rfl rfl hl.1 rfl (lv_room (Nat.le_of_ble_eq_true rfl)) dX0_bears_74 ⟨Nat.le_of_ble_eq_true rfl, Nat.le_of_ble_eq_true rfl⟩) hW hp23 (fun _ _ H locs hW => ?_)
                have hW : bW D g A s H locs [vW g adT T23, gW L kd nu aa, xW g adX (adN 0) (adT 0) iX X, vW g adN N] := hW
                refine lv_if_eq (tgt := 83) hx hb dX0_bears_77 (by decide) (fun c24 => ?_) (fun c24 => ?_)
                · have hf := o_t hf c24
                  obtain ⟨v25, ev25, hf⟩ := o_ls hf
                  refine lv_iinc (v := v25) (lv' := [(5, .int v25), (6, .ref (adT 0)), (0, .ref (adX 0)), (1, .int x1), (2, .int x2), (3, .int x3), (4, .int x4)]) hx hb dX0_bears_83 hl (k := 1) rfl ev25 (by decide) rfl (fun ls hl => ?_)
                  refine lv_goto (tgt := 48) hx hb dX0_bears_86 (by decide) ?_
                  exact ih15 _ _ _ _ _ (b_perms hW (b_ord [3, 2, 0, 1] 4 rfl rfl rfl)) (lv_sub hl [0, 2, 3, 4, 5, 6] rfl) hf
                · have hf := o_f hf c24
                  refine lv_iload hx hb dX0_bears_80 (lv_at hl 1 rfl) ?_
                  cases hf
                  exact b_iret hx hb hr hlk hE (b_perms hW (b_ord [2, 3, 0, 1] 4 rfl rfl rfl)) () rfl trivial rfl dX0_bears_82
          exact L15 _ _ _ _ _ _ hW (lv_sub hl [0, 1, 2, 3, 4, 5] rfl) hf
        · have hf := o_t hf c14
          refine lv_aload_n hx hb dX0_bears_37 rfl (lv_at hl 0 rfl) ?_
          refine lv_bipush (v := (-2)) hx hb dX0_bears_38 (by decide) ?_
          obtain ⟨r26, X27, hc27, hf⟩ := o_b2s hf
          have hp27 : List.Perm [vW g adN N, xW g adX (adN 0) (adT 0) iX X, vW g adT T, gW L kd nu aa] ([xW g adX (adN 0) (adT 0) iX X] ++ [vW g adN N, vW g adT T, gW L kd nu aa]) := b_perm [1] [0, 2, 3] 4 rfl rfl rfl rfl
          refine b_call0 ⟨rfl, rfl⟩ (va_runV (As := [.int (-2)]) (rest := []) ⟨hx, hb, hml, hown, hts⟩ (m_X0_no l D g H.size adX iX adN adT X (-2) r26 X27 hc27) (cwV 1 hts (lw_V q347 q349 qs2 q76 q350) rfl rfl rfl (by decide +kernel) ⟨Nat.le_of_ble_eq_true rfl, Nat.le_of_ble_eq_true rfl⟩) (b_preV (pp := 1) (q := 0) hW hp27 rfl xW_0 rfl) rfl rfl hl.1 rfl (lv_room (Nat.le_of_ble_eq_true rfl)) dX0_bears_40 ⟨Nat.le_of_ble_eq_true rfl, Nat.le_of_ble_eq_true rfl⟩) hW hp27 (fun _ _ H locs hW => ?_)
          have hW : bW D g A s H locs [xW g adX (adN 0) (adT 0) iX X27, vW g adN N, vW g adT T, gW L kd nu aa] := hW
          cases hf
          exact b_iret hx hb hr hlk hE hW () rfl trivial rfl dX0_bears_43
def f_X0_recovers_L33 (X : BC) (L : List Nat) (kd : Nat → Nat) (nu : Nat → Int32) (aa : Nat → Int32) (x1 : Int32) (fu : Nat) (rec5 : (Int32 × BC) → Option (Int32 × BC × BC)) : Int32 × BC → Option (Int32 × BC × BC)
  | (v6, T7) =>
    (if (30 : Int32) < v6 then
     some ((-1), X, T7)
     else
     o_b1 (f_X1_night fu T7 L kd nu aa) fun (T9 : BC) =>
     o_b1 (f_X1_ages fu T9) fun (T10 : BC) =>
     o_ck (inB x1 6) ((if (T10.1 1 (ix x1)) < (T10.1 2 (ix x1)) then
     o_lt (v6 + 1) fun (v13 : Int32) =>
     rec5 (v13, T10)
     else
     some (v6, X, T10))))
def f_X0_recovers (fu : Nat) (X : BC) (N : BC) (T : BC) (L : List Nat) (kd : Nat → Nat) (nu : Nat → Int32) (aa : Nat → Int32) (x1 : Int32) : Option (Int32 × BC × BC) :=
 o_b1 (f_X1_isInn N x1) fun (r1 : Int32) =>
 (if r1 = 0 then
 o_b2 (f_X0_no X (-2)) fun (r14 : Int32) (X15 : BC) =>
 some (r14, X15, T)
 else
 o_b1 (f_X0_tried X N T L kd nu aa) fun (T3 : BC) =>
 o_lt (bI T3 5 (fillF (T3.1 5) 6 (-1))) fun (T4 : BC) =>
 o_lp (f_X0_recovers_L33 X L kd nu aa x1 fu) fu (1, T4))
abbrev rm_X0_recovers : Room := { frames := 7, cells := 0, slots := 0, locals := 164 }
set_option maxHeartbeats 4000000 in
set_option maxRecDepth 100000 in
theorem m_X0_recovers (l : Launch) (D : va_G) (g : Nat → ClassId) (sz : Nat) (adX : Nat → Nat) (iX : Option Nat) (adN : Nat → Nat) (adT : Nat → Nat) (fu : Nat) (X : BC) (N : BC) (T : BC) (L : List Nat) (kd : Nat → Nat) (nu : Nat → Int32) (aa : Nat → Int32) (x1 : Int32) (rO : Int32) (XO : BC) (TO : BC) (hf : f_X0_recovers fu X N T L kd nu aa x1 = some (rO, XO, TO)) : bMet (S := Unit) l yX0_recovers (ws_ yX0_recovers cX0_recovers 4 (some .int)) rm_X0_recovers D g sz [.ref (adX 0), .int x1] [xW g adX (adN 0) (adT 0) iX X, vW g adN N, vW g adT T, gW L kd nu aa] (fun _ => True) (fun _ => some (.int rO)) (fun _ => [xW g adX (adN 0) (adT 0) iX XO, vW g adN N, vW g adT TO, gW L kd nu aa]) := by
  refine b_met (by decide) (Nat.le_of_ble_eq_true rfl) ?_
  intro p e s m args below meth c A Q ls hx hb hml hr hlk hown hname hts hE hl hW
  revert hW; generalize s.heap = H; intro hW
  have hl : lv_has ls 4 [(0, .ref (adX 0)), (1, .int x1)] := hl
  rw [f_X0_recovers] at hf
  refine lv_aload_n hx hb dX0_recovers_0 rfl (lv_at hl 0 rfl) ?_
  refine b_get hx hb hts in_X0 hown hW 0 0 0 0 rfl xW_0 rfl (by decide) ⟨rfl, rfl, rfl⟩ (hts _ q227) xW_g0 dX0_recovers_1 ?_
  refine lv_iload_n hx hb dX0_recovers_4 rfl (lv_at hl 1 rfl) ?_
  obtain ⟨r1, hc1, hf⟩ := o_b1s hf
  have hp1 : List.Perm [xW g adX (adN 0) (adT 0) iX X, vW g adN N, vW g adT T, gW L kd nu aa] ([vW g adN N] ++ [xW g adX (adN 0) (adT 0) iX X, vW g adT T, gW L kd nu aa]) := b_perm [1] [0, 2, 3] 4 rfl rfl rfl rfl
  refine b_call0 ⟨rfl, rfl⟩ (va_runV (As := [.int x1]) (rest := []) ⟨hx, hb, hml, hown, hts⟩ (m_X1_isInn l D g H.size adN N x1 r1 hc1) (cwV 1 hts (lw_V q672 q673 q674 q77 q675) rfl rfl rfl (by decide +kernel) ⟨Nat.le_of_ble_eq_true rfl, Nat.le_of_ble_eq_true rfl⟩) (b_preV (pp := 1) (q := 0) hW hp1 rfl vW_0 rfl) rfl rfl hl.1 rfl (lv_room (Nat.le_of_ble_eq_true rfl)) dX0_recovers_5 ⟨Nat.le_of_ble_eq_true rfl, Nat.le_of_ble_eq_true rfl⟩) hW hp1 (fun _ _ H locs hW => ?_)
  have hW : bW D g A s H locs [vW g adN N, xW g adX (adN 0) (adT 0) iX X, vW g adT T, gW L kd nu aa] := hW
  refine lv_if_ne (tgt := 18) hx hb dX0_recovers_8 (by decide) (fun c2 => ?_) (fun c2 => ?_)
  · have hf := o_f hf c2
    refine lv_aload_n hx hb dX0_recovers_18 rfl (lv_at hl 0 rfl) ?_
    obtain ⟨T3, hc3, hf⟩ := o_b1s hf
    have hp3 : List.Perm [vW g adN N, xW g adX (adN 0) (adT 0) iX X, vW g adT T, gW L kd nu aa] ([xW g adX (adN 0) (adT 0) iX X, vW g adN N, vW g adT T, gW L kd nu aa] ++ []) := b_perm [1, 0, 2, 3] [] 4 rfl rfl rfl rfl
    refine b_call0 ⟨rfl, rfl⟩ (va_runV (As := []) (rest := []) ⟨hx, hb, hml, hown, hts⟩ (m_X0_tried l D g H.size adX iX adN adT X N T L kd nu aa T3 hc3) (cwV 0 hts (lw_V q1223 q1225 qs22 q76 q1226) rfl rfl rfl (by decide +kernel) ⟨Nat.le_of_ble_eq_true rfl, Nat.le_of_ble_eq_true rfl⟩) (b_preV (pp := 1) (q := 0) hW hp3 rfl xW_0 rfl) rfl rfl hl.1 rfl (lv_room (Nat.le_of_ble_eq_true rfl)) dX0_recovers_19 ⟨Nat.le_of_ble_eq_true rfl, Nat.le_of_ble_eq_true rfl⟩) hW hp3 (fun _ _ H locs hW => ?_)
    have hW : bW D g A s H locs [xW g adX (adN 0) (adT 0) iX X, vW g adN N, vW g adT T3, gW L kd nu aa] := hW
    refine lv_astore_n (lv' := [(2, .ref (adT 0)), (0, .ref (adX 0)), (1, .int x1)]) hx hb dX0_recovers_22 rfl hl (by decide) rfl (fun ls hl => ?_)
    refine lv_aload_n hx hb dX0_recovers_23 rfl (lv_at hl 0 rfl) ?_
    refine b_get hx hb hts in_X1 hown hW 2 0 1 4 rfl vW_0 rfl (by decide) ⟨rfl, rfl, rfl⟩ (hts _ q145) vW_g4 dX0_recovers_24 ?_
    refine lv_iconst (v := (-1)) hx hb dX0_recovers_27 (by decide) ?_
    obtain ⟨T4, eT4, hf⟩ := o_ls hf
    have hp4 : List.Perm [xW g adX (adN 0) (adT 0) iX X, vW g adN N, vW g adT T3, gW L kd nu aa] ([vW g adT T3] ++ [xW g adX (adN 0) (adT 0) iX X, vW g adN N, gW L kd nu aa]) := b_perm [2] [0, 1, 3] 4 rfl rfl rfl rfl
    refine b_call0 ⟨rfl, rfl⟩ (va_runS (As := [.ref (adT 5), .int (-1)]) (rest := []) ⟨hx, hb, hml, hown, hts⟩ (m_J16_fill l D g H.size _ _ 5 _ _ _ _ (by decide) vW_5 (vW_s5 eT4)) (va_cwS 2 hts (lw_S q1392 q1144 q105 q1145) rfl rfl rfl (by decide +kernel) ⟨Nat.le_of_ble_eq_true rfl, Nat.le_of_ble_eq_true rfl⟩) (b_preS hW hp4) rfl rfl hl.1 rfl (lv_room (Nat.le_of_ble_eq_true rfl)) dX0_recovers_28 ⟨Nat.le_of_ble_eq_true rfl, Nat.le_of_ble_eq_true rfl⟩) hW hp4 (fun _ _ H locs hW => ?_)
    have hW : bW D g A s H locs [vW g adT T4, xW g adX (adN 0) (adT 0) iX X, vW g adN N, gW L kd nu aa] := hW
    refine lv_iconst (v := 1) hx hb dX0_recovers_31 (by decide) ?_
    refine lv_istore_n (lv' := [(3, .int 1), (2, .ref (adT 0)), (0, .ref (adX 0)), (1, .int x1)]) hx hb dX0_recovers_32 rfl hl (by decide) rfl (fun ls hl => ?_)
    obtain ⟨stp5, est5, hf⟩ := o_ln hf
    have L5 : ∀ (n : Nat) (v6 : Int32) (T7 : BC) (H : Heap) (locs : List Loc) (ls : Array Slot), bW D g A s H locs [vW g adT T7, xW g adX (adN 0) (adT 0) iX X, vW g adN N, gW L kd nu aa] → lv_has ls 4 [(3, .int v6), (2, .ref (adT 0)), (1, .int x1)] → o_lp stp5 n (v6, T7) = some (rO, XO, TO) → W p l e rm_X0_recovers s m args below meth c H locs 0 0 Q (F0 m 33 ls []) := by
      intro n5
      induction n5 with
      | zero => intro v6 T7 H locs ls hW hl hf; exact (o_lz hf).elim
      | succ n5 ih5 =>
        intro v6 T7 H locs ls hW hl hf
        have hf := o_lu est5 hf
        rw [f_X0_recovers_L33] at hf
        refine lv_iload_n hx hb dX0_recovers_33 rfl (lv_at hl 0 rfl) ?_
        refine lv_bipush (v := 30) hx hb dX0_recovers_34 (by decide) ?_
        refine lv_icmp_gt (tgt := 69) hx hb dX0_recovers_36 (by decide) (fun c8 => ?_) (fun c8 => ?_)
        · have hf := o_t hf c8
          refine lv_iconst (v := (-1)) hx hb dX0_recovers_69 (by decide) ?_
          cases hf
          exact b_iret hx hb hr hlk hE (b_perms hW (b_ord [1, 2, 0, 3] 4 rfl rfl rfl)) () rfl trivial rfl dX0_recovers_70
        · have hf := o_f hf c8
          refine lv_aload_n hx hb dX0_recovers_39 rfl (lv_at hl 1 rfl) ?_
          obtain ⟨T9, hc9, hf⟩ := o_b1s hf
          have hp9 : List.Perm [vW g adT T7, xW g adX (adN 0) (adT 0) iX X, vW g adN N, gW L kd nu aa] ([vW g adT T7, gW L kd nu aa] ++ [xW g adX (adN 0) (adT 0) iX X, vW g adN N]) := b_perm [0, 3] [1, 2] 4 rfl rfl rfl rfl
          refine b_call0 ⟨rfl, rfl⟩ (va_runV (As := []) (rest := []) ⟨hx, hb, hml, hown, hts⟩ (m_X1_night l D g H.size adT fu T7 L kd nu aa T9 hc9) (cwV 0 hts (lw_V q1135 q1136 q1137 q77 q1138) rfl rfl rfl (by decide +kernel) ⟨Nat.le_of_ble_eq_true rfl, Nat.le_of_ble_eq_true rfl⟩) (b_preV (pp := 0) (q := 0) hW hp9 rfl vW_0 rfl) rfl rfl hl.1 rfl (lv_room (Nat.le_of_ble_eq_true rfl)) dX0_recovers_40 ⟨Nat.le_of_ble_eq_true rfl, Nat.le_of_ble_eq_true rfl⟩) hW hp9 (fun _ _ H locs hW => ?_)
          have hW : bW D g A s H locs [vW g adT T9, gW L kd nu aa, xW g adX (adN 0) (adT 0) iX X, vW g adN N] := hW
          obtain ⟨T10, hc10, hf⟩ := o_b1s hf
          have hp10 : List.Perm [vW g adT T9, gW L kd nu aa, xW g adX (adN 0) (adT 0) iX X, vW g adN N] ([vW g adT T9] ++ [gW L kd nu aa, xW g adX (adN 0) (adT 0) iX X, vW g adN N]) := b_perm [0] [1, 2, 3] 4 rfl rfl rfl rfl
          refine b_call0 ⟨rfl, rfl⟩ (va_runV (As := []) (rest := []) ⟨hx, hb, hml, hown, hts⟩ (m_X1_ages l D g H.size adT fu T9 T10 hc10) (cwV 0 hts (lw_V q1297 q1281 q1282 q77 q1283) rfl rfl rfl (by decide +kernel) ⟨Nat.le_of_ble_eq_true rfl, Nat.le_of_ble_eq_true rfl⟩) (b_preV (pp := 0) (q := 0) hW hp10 rfl vW_0 rfl) rfl rfl hl.1 rfl (lv_room (Nat.le_of_ble_eq_true rfl)) dX0_recovers_43 ⟨Nat.le_of_ble_eq_true rfl, Nat.le_of_ble_eq_true rfl⟩) hW hp10 (fun _ _ H locs hW => ?_)
          have hW : bW D g A s H locs [vW g adT T10, gW L kd nu aa, xW g adX (adN 0) (adT 0) iX X, vW g adN N] := hW
          refine lv_aload_n hx hb dX0_recovers_46 rfl (lv_at hl 1 rfl) ?_
          refine b_get hx hb hts in_X1 hown hW 0 0 1 0 rfl vW_0 rfl (by decide) ⟨rfl, rfl, rfl⟩ (hts _ q131) vW_g0 dX0_recovers_47 ?_
          refine lv_iload_n hx hb dX0_recovers_50 rfl (lv_at hl 2 rfl) ?_
          obtain ⟨h11, hf⟩ := o_cs hf
          refine b_iald hx hb hW 0 1 rfl vW_1 h11 dX0_recovers_51 ?_
          refine lv_aload_n hx hb dX0_recovers_52 rfl (lv_at hl 1 rfl) ?_
          refine b_get hx hb hts in_X1 hown hW 0 0 1 1 rfl vW_0 rfl (by decide) ⟨rfl, rfl, rfl⟩ (hts _ q133) vW_g1 dX0_recovers_53 ?_
          refine lv_iload_n hx hb dX0_recovers_56 rfl (lv_at hl 2 rfl) ?_
          refine b_iald hx hb hW 0 2 rfl vW_2 h11 dX0_recovers_57 ?_
          refine lv_icmp_lt (tgt := 63) hx hb dX0_recovers_58 (by decide) (fun c12 => ?_) (fun c12 => ?_)
          · have hf := o_t hf c12
            obtain ⟨v13, ev13, hf⟩ := o_ls hf
            refine lv_iinc (v := v13) (lv' := [(3, .int v13), (2, .ref (adT 0)), (1, .int x1)]) hx hb dX0_recovers_63 hl (k := 0) rfl ev13 (by decide) rfl (fun ls hl => ?_)
            refine lv_goto (tgt := 33) hx hb dX0_recovers_66 (by decide) ?_
            exact ih5 _ _ _ _ _ (b_perms hW (b_ord [0, 2, 3, 1] 4 rfl rfl rfl)) (lv_sub hl [0, 1, 2] rfl) hf
          · have hf := o_f hf c12
            refine lv_iload_n hx hb dX0_recovers_61 rfl (lv_at hl 0 rfl) ?_
            cases hf
            exact b_iret hx hb hr hlk hE (b_perms hW (b_ord [2, 3, 0, 1] 4 rfl rfl rfl)) () rfl trivial rfl dX0_recovers_62
    exact L5 _ _ _ _ _ _ hW (lv_sub hl [0, 1, 3] rfl) hf
  · have hf := o_t hf c2
    refine lv_aload_n hx hb dX0_recovers_11 rfl (lv_at hl 0 rfl) ?_
    refine lv_bipush (v := (-2)) hx hb dX0_recovers_12 (by decide) ?_
    obtain ⟨r14, X15, hc15, hf⟩ := o_b2s hf
    have hp15 : List.Perm [vW g adN N, xW g adX (adN 0) (adT 0) iX X, vW g adT T, gW L kd nu aa] ([xW g adX (adN 0) (adT 0) iX X] ++ [vW g adN N, vW g adT T, gW L kd nu aa]) := b_perm [1] [0, 2, 3] 4 rfl rfl rfl rfl
    refine b_call0 ⟨rfl, rfl⟩ (va_runV (As := [.int (-2)]) (rest := []) ⟨hx, hb, hml, hown, hts⟩ (m_X0_no l D g H.size adX iX adN adT X (-2) r14 X15 hc15) (cwV 1 hts (lw_V q347 q349 qs2 q76 q350) rfl rfl rfl (by decide +kernel) ⟨Nat.le_of_ble_eq_true rfl, Nat.le_of_ble_eq_true rfl⟩) (b_preV (pp := 1) (q := 0) hW hp15 rfl xW_0 rfl) rfl rfl hl.1 rfl (lv_room (Nat.le_of_ble_eq_true rfl)) dX0_recovers_14 ⟨Nat.le_of_ble_eq_true rfl, Nat.le_of_ble_eq_true rfl⟩) hW hp15 (fun _ _ H locs hW => ?_)
    have hW : bW D g A s H locs [xW g adX (adN 0) (adT 0) iX X15, vW g adN N, vW g adT T, gW L kd nu aa] := hW
    cases hf
    exact b_iret hx hb hr hlk hE hW () rfl trivial rfl dX0_recovers_17
def f_X0_dearest_L33 (X : BC) (N : BC) (L : List Nat) (kd : Nat → Nat) (nu : Nat → Int32) (aa : Nat → Int32) (x1 : Int32) (x2 : Int32) (fu : Nat) (rec7 : (Int32 × Int32 × Int32 × BC) → Option (Int32 × BC × BC)) : Int32 × Int32 × Int32 × BC → Option (Int32 × BC × BC)
  | (v8, v9, v10, T11) =>
    (if (99 : Int32) < v10 then
     some (v8, X, T11)
     else
     o_b1 (f_X0_tried X N T11 L kd nu aa) fun (T13 : BC) =>
     o_ck (inB x2 6) (o_lt (bI T13 4 (upd (T13.1 4) (ix x2) v10)) fun (T15 : BC) =>
     o_b2 (f_X0_takes fu T15 L kd nu aa x1 x2) fun (r16 : Int32) (T17 : BC) =>
     (if r16 ≤ v9 then
     o_lt (v10 + 1) fun (v19 : Int32) =>
     rec7 (v8, v9, v19, T17)
     else
     o_lt (v10 + 1) fun (v20 : Int32) =>
     rec7 (v10, r16, v20, T17))))
def f_X0_dearest (fu : Nat) (X : BC) (N : BC) (T : BC) (L : List Nat) (kd : Nat → Nat) (nu : Nat → Int32) (aa : Nat → Int32) (x1 : Int32) (x2 : Int32) : Option (Int32 × BC × BC) :=
 o_b1 (f_X0_isYears x1) fun (r1 : Int32) =>
 (if r1 = 0 then
 o_b2 (f_X0_no X (-2)) fun (r3 : Int32) (X4 : BC) =>
 some (r3, X4, T)
 else
 o_b1 (f_X1_isInn N x2) fun (r5 : Int32) =>
 (if r5 = 0 then
 o_b2 (f_X0_no X (-2)) fun (r21 : Int32) (X22 : BC) =>
 some (r21, X22, T)
 else
 o_lp (f_X0_dearest_L33 X N L kd nu aa x1 x2 fu) fu (0, (-1), 0, T)))
abbrev rm_X0_dearest : Room := { frames := 8, cells := 0, slots := 0, locals := 188 }
set_option maxHeartbeats 4000000 in
set_option maxRecDepth 100000 in
theorem m_X0_dearest (l : Launch) (D : va_G) (g : Nat → ClassId) (sz : Nat) (adX : Nat → Nat) (iX : Option Nat) (adN : Nat → Nat) (adT : Nat → Nat) (fu : Nat) (X : BC) (N : BC) (T : BC) (L : List Nat) (kd : Nat → Nat) (nu : Nat → Int32) (aa : Nat → Int32) (x1 : Int32) (x2 : Int32) (rO : Int32) (XO : BC) (TO : BC) (hf : f_X0_dearest fu X N T L kd nu aa x1 x2 = some (rO, XO, TO)) : bMet (S := Unit) l yX0_dearest (ws_ yX0_dearest cX0_dearest 8 (some .int)) rm_X0_dearest D g sz [.ref (adX 0), .int x1, .int x2] [xW g adX (adN 0) (adT 0) iX X, vW g adN N, vW g adT T, gW L kd nu aa] (fun _ => True) (fun _ => some (.int rO)) (fun _ => [xW g adX (adN 0) (adT 0) iX XO, vW g adN N, vW g adT TO, gW L kd nu aa]) := by
  refine b_met (by decide) (Nat.le_of_ble_eq_true rfl) ?_
  intro p e s m args below meth c A Q ls hx hb hml hr hlk hown hname hts hE hl hW
  revert hW; generalize s.heap = H; intro hW
  have hl : lv_has ls 8 [(0, .ref (adX 0)), (1, .int x1), (2, .int x2)] := hl
  rw [f_X0_dearest] at hf
  refine lv_iload_n hx hb dX0_dearest_0 rfl (lv_at hl 1 rfl) ?_
  obtain ⟨r1, hc1, hf⟩ := o_b1s hf
  have hp1 : List.Perm [xW g adX (adN 0) (adT 0) iX X, vW g adN N, vW g adT T, gW L kd nu aa] ([] ++ [xW g adX (adN 0) (adT 0) iX X, vW g adN N, vW g adT T, gW L kd nu aa]) := b_perm [] [0, 1, 2, 3] 4 rfl rfl rfl rfl
  refine b_call0 ⟨rfl, rfl⟩ (va_runS (As := [.int x1]) (rest := []) ⟨hx, hb, hml, hown, hts⟩ (m_X0_isYears l D g H.size x1 r1 hc1) (va_cwS 1 hts (lw_S q1271 q1272 q76 q1273) rfl rfl rfl (by decide +kernel) ⟨Nat.le_of_ble_eq_true rfl, Nat.le_of_ble_eq_true rfl⟩) (b_preS hW hp1) rfl rfl hl.1 rfl (lv_room (Nat.le_of_ble_eq_true rfl)) dX0_dearest_1 ⟨Nat.le_of_ble_eq_true rfl, Nat.le_of_ble_eq_true rfl⟩) hW hp1 (fun _ _ H locs hW => ?_)
  have hW : bW D g A s H locs [xW g adX (adN 0) (adT 0) iX X, vW g adN N, vW g adT T, gW L kd nu aa] := hW
  refine lv_if_eq (tgt := 18) hx hb dX0_dearest_4 (by decide) (fun c2 => ?_) (fun c2 => ?_)
  · have hf := o_t hf c2
    refine lv_aload_n hx hb dX0_dearest_18 rfl (lv_at hl 0 rfl) ?_
    refine lv_bipush (v := (-2)) hx hb dX0_dearest_19 (by decide) ?_
    obtain ⟨r3, X4, hc4, hf⟩ := o_b2s hf
    have hp4 : List.Perm [xW g adX (adN 0) (adT 0) iX X, vW g adN N, vW g adT T, gW L kd nu aa] ([xW g adX (adN 0) (adT 0) iX X] ++ [vW g adN N, vW g adT T, gW L kd nu aa]) := b_perm [0] [1, 2, 3] 4 rfl rfl rfl rfl
    refine b_call0 ⟨rfl, rfl⟩ (va_runV (As := [.int (-2)]) (rest := []) ⟨hx, hb, hml, hown, hts⟩ (m_X0_no l D g H.size adX iX adN adT X (-2) r3 X4 hc4) (cwV 1 hts (lw_V q347 q349 qs2 q76 q350) rfl rfl rfl (by decide +kernel) ⟨Nat.le_of_ble_eq_true rfl, Nat.le_of_ble_eq_true rfl⟩) (b_preV (pp := 0) (q := 0) hW hp4 rfl xW_0 rfl) rfl rfl hl.1 rfl (lv_room (Nat.le_of_ble_eq_true rfl)) dX0_dearest_21 ⟨Nat.le_of_ble_eq_true rfl, Nat.le_of_ble_eq_true rfl⟩) hW hp4 (fun _ _ H locs hW => ?_)
    have hW : bW D g A s H locs [xW g adX (adN 0) (adT 0) iX X4, vW g adN N, vW g adT T, gW L kd nu aa] := hW
    cases hf
    exact b_iret hx hb hr hlk hE hW () rfl trivial rfl dX0_dearest_24
  · have hf := o_f hf c2
    refine lv_aload_n hx hb dX0_dearest_7 rfl (lv_at hl 0 rfl) ?_
    refine b_get hx hb hts in_X0 hown hW 0 0 0 0 rfl xW_0 rfl (by decide) ⟨rfl, rfl, rfl⟩ (hts _ q227) xW_g0 dX0_dearest_8 ?_
    refine lv_iload_n hx hb dX0_dearest_11 rfl (lv_at hl 2 rfl) ?_
    obtain ⟨r5, hc5, hf⟩ := o_b1s hf
    have hp5 : List.Perm [xW g adX (adN 0) (adT 0) iX X, vW g adN N, vW g adT T, gW L kd nu aa] ([vW g adN N] ++ [xW g adX (adN 0) (adT 0) iX X, vW g adT T, gW L kd nu aa]) := b_perm [1] [0, 2, 3] 4 rfl rfl rfl rfl
    refine b_call0 ⟨rfl, rfl⟩ (va_runV (As := [.int x2]) (rest := []) ⟨hx, hb, hml, hown, hts⟩ (m_X1_isInn l D g H.size adN N x2 r5 hc5) (cwV 1 hts (lw_V q672 q673 q674 q77 q675) rfl rfl rfl (by decide +kernel) ⟨Nat.le_of_ble_eq_true rfl, Nat.le_of_ble_eq_true rfl⟩) (b_preV (pp := 1) (q := 0) hW hp5 rfl vW_0 rfl) rfl rfl hl.1 rfl (lv_room (Nat.le_of_ble_eq_true rfl)) dX0_dearest_12 ⟨Nat.le_of_ble_eq_true rfl, Nat.le_of_ble_eq_true rfl⟩) hW hp5 (fun _ _ H locs hW => ?_)
    have hW : bW D g A s H locs [vW g adN N, xW g adX (adN 0) (adT 0) iX X, vW g adT T, gW L kd nu aa] := hW
    refine lv_if_ne (tgt := 25) hx hb dX0_dearest_15 (by decide) (fun c6 => ?_) (fun c6 => ?_)
    · have hf := o_f hf c6
      refine lv_iconst (v := 0) hx hb dX0_dearest_25 (by decide) ?_
      refine lv_istore_n (lv' := [(3, .int 0), (0, .ref (adX 0)), (1, .int x1), (2, .int x2)]) hx hb dX0_dearest_26 rfl hl (by decide) rfl (fun ls hl => ?_)
      refine lv_iconst (v := (-1)) hx hb dX0_dearest_27 (by decide) ?_
      refine lv_istore (lv' := [(4, .int (-1)), (3, .int 0), (0, .ref (adX 0)), (1, .int x1), (2, .int x2)]) hx hb dX0_dearest_28 hl (by decide) rfl (fun ls hl => ?_)
      refine lv_iconst (v := 0) hx hb dX0_dearest_30 (by decide) ?_
      refine lv_istore (lv' := [(5, .int 0), (4, .int (-1)), (3, .int 0), (0, .ref (adX 0)), (1, .int x1), (2, .int x2)]) hx hb dX0_dearest_31 hl (by decide) rfl (fun ls hl => ?_)
      obtain ⟨stp7, est7, hf⟩ := o_ln hf
      have L7 : ∀ (n : Nat) (v8 : Int32) (v9 : Int32) (v10 : Int32) (T11 : BC) (H : Heap) (locs : List Loc) (ls : Array Slot), bW D g A s H locs [vW g adN N, xW g adX (adN 0) (adT 0) iX X, vW g adT T11, gW L kd nu aa] → lv_has ls 8 [(5, .int v10), (4, .int v9), (3, .int v8), (0, .ref (adX 0)), (1, .int x1), (2, .int x2)] → o_lp stp7 n (v8, v9, v10, T11) = some (rO, XO, TO) → W p l e rm_X0_dearest s m args below meth c H locs 0 0 Q (F0 m 33 ls []) := by
        intro n7
        induction n7 with
        | zero => intro v8 v9 v10 T11 H locs ls hW hl hf; exact (o_lz hf).elim
        | succ n7 ih7 =>
          intro v8 v9 v10 T11 H locs ls hW hl hf
          have hf := o_lu est7 hf
          rw [f_X0_dearest_L33] at hf
          refine lv_iload hx hb dX0_dearest_33 (lv_at hl 0 rfl) ?_
          refine lv_bipush (v := 99) hx hb dX0_dearest_35 (by decide) ?_
          refine lv_icmp_gt (tgt := 84) hx hb dX0_dearest_37 (by decide) (fun c12 => ?_) (fun c12 => ?_)
          · have hf := o_t hf c12
            refine lv_iload_n hx hb dX0_dearest_84 rfl (lv_at hl 2 rfl) ?_
            cases hf
            exact b_iret hx hb hr hlk hE (b_perms hW (b_ord [1, 0, 2, 3] 4 rfl rfl rfl)) () rfl trivial rfl dX0_dearest_85
          · have hf := o_f hf c12
            refine lv_aload_n hx hb dX0_dearest_40 rfl (lv_at hl 3 rfl) ?_
            obtain ⟨T13, hc13, hf⟩ := o_b1s hf
            have hp13 : List.Perm [vW g adN N, xW g adX (adN 0) (adT 0) iX X, vW g adT T11, gW L kd nu aa] ([xW g adX (adN 0) (adT 0) iX X, vW g adN N, vW g adT T11, gW L kd nu aa] ++ []) := b_perm [1, 0, 2, 3] [] 4 rfl rfl rfl rfl
            refine b_call0 ⟨rfl, rfl⟩ (va_runV (As := []) (rest := []) ⟨hx, hb, hml, hown, hts⟩ (m_X0_tried l D g H.size adX iX adN adT X N T11 L kd nu aa T13 hc13) (cwV 0 hts (lw_V q1223 q1225 qs22 q76 q1226) rfl rfl rfl (by decide +kernel) ⟨Nat.le_of_ble_eq_true rfl, Nat.le_of_ble_eq_true rfl⟩) (b_preV (pp := 1) (q := 0) hW hp13 rfl xW_0 rfl) rfl rfl hl.1 rfl (lv_room (Nat.le_of_ble_eq_true rfl)) dX0_dearest_41 ⟨Nat.le_of_ble_eq_true rfl, Nat.le_of_ble_eq_true rfl⟩) hW hp13 (fun _ _ H locs hW => ?_)
            have hW : bW D g A s H locs [xW g adX (adN 0) (adT 0) iX X, vW g adN N, vW g adT T13, gW L kd nu aa] := hW
            refine lv_astore (lv' := [(6, .ref (adT 0)), (5, .int v10), (4, .int v9), (3, .int v8), (0, .ref (adX 0)), (1, .int x1), (2, .int x2)]) hx hb dX0_dearest_44 hl (by decide) rfl (fun ls hl => ?_)
            refine lv_aload hx hb dX0_dearest_46 (lv_at hl 0 rfl) ?_
            refine b_get hx hb hts in_X1 hown hW 2 0 1 3 rfl vW_0 rfl (by decide) ⟨rfl, rfl, rfl⟩ (hts _ q139) vW_g3 dX0_dearest_48 ?_
            refine lv_iload_n hx hb dX0_dearest_51 rfl (lv_at hl 6 rfl) ?_
            refine lv_iload hx hb dX0_dearest_52 (lv_at hl 1 rfl) ?_
            obtain ⟨h14, hf⟩ := o_cs hf
            obtain ⟨T15, eT15, hf⟩ := o_ls hf
            refine b_iast hx hb hW 2 4 rfl vW_4 (vW_s4 eT15) rfl h14 dX0_dearest_54 (fun H locs hW => ?_)
            have hW : bW D g A s H locs [xW g adX (adN 0) (adT 0) iX X, vW g adN N, vW g adT T15, gW L kd nu aa] := hW
            refine lv_aload hx hb dX0_dearest_55 (lv_at hl 0 rfl) ?_
            refine lv_iload_n hx hb dX0_dearest_57 rfl (lv_at hl 5 rfl) ?_
            refine lv_iload_n hx hb dX0_dearest_58 rfl (lv_at hl 6 rfl) ?_
            obtain ⟨r16, T17, hc17, hf⟩ := o_b2s hf
            have hp17 : List.Perm [xW g adX (adN 0) (adT 0) iX X, vW g adN N, vW g adT T15, gW L kd nu aa] ([vW g adT T15, gW L kd nu aa] ++ [xW g adX (adN 0) (adT 0) iX X, vW g adN N]) := b_perm [2, 3] [0, 1] 4 rfl rfl rfl rfl
            refine b_call0 ⟨rfl, rfl⟩ (va_runS (As := [.ref (adT 0), .int x1, .int x2]) (rest := []) ⟨hx, hb, hml, hown, hts⟩ (m_X0_takes l D g H.size adT fu T15 L kd nu aa x1 x2 r16 T17 hc17) (va_cwS 3 hts (lw_S q1294 q1295 q76 q1296) rfl rfl rfl (by decide +kernel) ⟨Nat.le_of_ble_eq_true rfl, Nat.le_of_ble_eq_true rfl⟩) (b_preS hW hp17) rfl rfl hl.1 rfl (lv_room (Nat.le_of_ble_eq_true rfl)) dX0_dearest_59 ⟨Nat.le_of_ble_eq_true rfl, Nat.le_of_ble_eq_true rfl⟩) hW hp17 (fun _ _ H locs hW => ?_)
            have hW : bW D g A s H locs [vW g adT T17, gW L kd nu aa, xW g adX (adN 0) (adT 0) iX X, vW g adN N] := hW
            refine lv_istore (lv' := [(7, .int r16), (6, .ref (adT 0)), (5, .int v10), (4, .int v9), (3, .int v8), (0, .ref (adX 0)), (1, .int x1), (2, .int x2)]) hx hb dX0_dearest_62 hl (by decide) rfl (fun ls hl => ?_)
            refine lv_iload hx hb dX0_dearest_64 (lv_at hl 0 rfl) ?_
            refine lv_iload hx hb dX0_dearest_66 (lv_at hl 3 rfl) ?_
            refine lv_icmp_le (tgt := 78) hx hb dX0_dearest_68 (by decide) (fun c18 => ?_) (fun c18 => ?_)
            · have hf := o_t hf c18
              obtain ⟨v19, ev19, hf⟩ := o_ls hf
              refine lv_iinc (v := v19) (lv' := [(5, .int v19), (7, .int r16), (6, .ref (adT 0)), (4, .int v9), (3, .int v8), (0, .ref (adX 0)), (1, .int x1), (2, .int x2)]) hx hb dX0_dearest_78 hl (k := 2) rfl ev19 (by decide) rfl (fun ls hl => ?_)
              refine lv_goto (tgt := 33) hx hb dX0_dearest_81 (by decide) ?_
              exact ih7 _ _ _ _ _ _ _ (b_perms hW (b_ord [3, 2, 0, 1] 4 rfl rfl rfl)) (lv_sub hl [0, 3, 4, 5, 6, 7] rfl) hf
            · have hf := o_f hf c18
              refine lv_iload hx hb dX0_dearest_71 (lv_at hl 2 rfl) ?_
              refine lv_istore_n (lv' := [(3, .int v10), (7, .int r16), (6, .ref (adT 0)), (5, .int v10), (4, .int v9), (0, .ref (adX 0)), (1, .int x1), (2, .int x2)]) hx hb dX0_dearest_73 rfl hl (by decide) rfl (fun ls hl => ?_)
              refine lv_iload hx hb dX0_dearest_74 (lv_at hl 1 rfl) ?_
              refine lv_istore (lv' := [(4, .int r16), (3, .int v10), (7, .int r16), (6, .ref (adT 0)), (5, .int v10), (0, .ref (adX 0)), (1, .int x1), (2, .int x2)]) hx hb dX0_dearest_76 hl (by decide) rfl (fun ls hl => ?_)
              obtain ⟨v20, ev20, hf⟩ := o_ls hf
              refine lv_iinc (v := v20) (lv' := [(5, .int v20), (4, .int r16), (3, .int v10), (7, .int r16), (6, .ref (adT 0)), (0, .ref (adX 0)), (1, .int x1), (2, .int x2)]) hx hb dX0_dearest_78 hl (k := 4) rfl ev20 (by decide) rfl (fun ls hl => ?_)
              refine lv_goto (tgt := 33) hx hb dX0_dearest_81 (by decide) ?_
              exact ih7 _ _ _ _ _ _ _ (b_perms hW (b_ord [3, 2, 0, 1] 4 rfl rfl rfl)) (lv_sub hl [0, 1, 2, 5, 6, 7] rfl) hf
      exact L7 _ _ _ _ _ _ _ _ hW (lv_sub hl [0, 1, 2, 3, 4, 5] rfl) hf
    · have hf := o_t hf c6
      refine lv_aload_n hx hb dX0_dearest_18 rfl (lv_at hl 0 rfl) ?_
      refine lv_bipush (v := (-2)) hx hb dX0_dearest_19 (by decide) ?_
      obtain ⟨r21, X22, hc22, hf⟩ := o_b2s hf
      have hp22 : List.Perm [vW g adN N, xW g adX (adN 0) (adT 0) iX X, vW g adT T, gW L kd nu aa] ([xW g adX (adN 0) (adT 0) iX X] ++ [vW g adN N, vW g adT T, gW L kd nu aa]) := b_perm [1] [0, 2, 3] 4 rfl rfl rfl rfl
      refine b_call0 ⟨rfl, rfl⟩ (va_runV (As := [.int (-2)]) (rest := []) ⟨hx, hb, hml, hown, hts⟩ (m_X0_no l D g H.size adX iX adN adT X (-2) r21 X22 hc22) (cwV 1 hts (lw_V q347 q349 qs2 q76 q350) rfl rfl rfl (by decide +kernel) ⟨Nat.le_of_ble_eq_true rfl, Nat.le_of_ble_eq_true rfl⟩) (b_preV (pp := 1) (q := 0) hW hp22 rfl xW_0 rfl) rfl rfl hl.1 rfl (lv_room (Nat.le_of_ble_eq_true rfl)) dX0_dearest_21 ⟨Nat.le_of_ble_eq_true rfl, Nat.le_of_ble_eq_true rfl⟩) hW hp22 (fun _ _ H locs hW => ?_)
      have hW : bW D g A s H locs [xW g adX (adN 0) (adT 0) iX X22, vW g adN N, vW g adT T, gW L kd nu aa] := hW
      cases hf
      exact b_iret hx hb hr hlk hE hW () rfl trivial rfl dX0_dearest_24
def f_X0_lives (fu : Nat) (X : BC) (N : BC) (L : List Nat) (kd : Nat → Nat) (nu : Nat → Int32) (aa : Nat → Int32) (x1 : Int32) : Option (Int32 × BC) :=
 o_lt ((N.1 0 4) + x1) fun (v1 : Int32) =>
 o_lt (bI N 0 (upd (N.1 0) 4 v1)) fun (N2 : BC) =>
 o_b2 (f_X1_years fu N2 L kd nu aa x1 (-1)) fun (r3 : Int32) (N4 : BC) =>
 some (r3, N4)
abbrev rm_X0_lives : Room := { frames := 8, cells := 0, slots := 0, locals := 188 }
set_option maxHeartbeats 4000000 in
set_option maxRecDepth 100000 in
theorem m_X0_lives (l : Launch) (D : va_G) (g : Nat → ClassId) (sz : Nat) (adX : Nat → Nat) (iX : Option Nat) (adN : Nat → Nat) (adT : Nat → Nat) (fu : Nat) (X : BC) (N : BC) (L : List Nat) (kd : Nat → Nat) (nu : Nat → Int32) (aa : Nat → Int32) (x1 : Int32) (rO : Int32) (NO : BC) (hf : f_X0_lives fu X N L kd nu aa x1 = some (rO, NO)) : bMet (S := Unit) l yX0_lives (ws_ yX0_lives cX0_lives 2 (some .int)) rm_X0_lives D g sz [.ref (adX 0), .int x1] [xW g adX (adN 0) (adT 0) iX X, vW g adN N, gW L kd nu aa] (fun _ => True) (fun _ => some (.int rO)) (fun _ => [xW g adX (adN 0) (adT 0) iX X, vW g adN NO, gW L kd nu aa]) := by
  refine b_met (by decide) (Nat.le_of_ble_eq_true rfl) ?_
  intro p e s m args below meth c A Q ls hx hb hml hr hlk hown hname hts hE hl hW
  revert hW; generalize s.heap = H; intro hW
  have hl : lv_has ls 2 [(0, .ref (adX 0)), (1, .int x1)] := hl
  rw [f_X0_lives] at hf
  refine lv_aload_n hx hb dX0_lives_0 rfl (lv_at hl 0 rfl) ?_
  refine b_get hx hb hts in_X0 hown hW 0 0 0 0 rfl xW_0 rfl (by decide) ⟨rfl, rfl, rfl⟩ (hts _ q227) xW_g0 dX0_lives_1 ?_
  refine lv_dup hx hb dX0_lives_4 rfl ?_
  refine b_get hx hb hts in_X1 hown hW 1 0 1 16 rfl vW_0 rfl (by decide) ⟨rfl, rfl, rfl⟩ (hts _ q178) vW_g16 dX0_lives_5 ?_
  refine lv_iload_n hx hb dX0_lives_8 rfl (lv_at hl 1 rfl) ?_
  refine lv_iadd hx hb dX0_lives_9 ?_
  obtain ⟨v1, ev1, hf⟩ := o_ls hf
  refine b_topi ev1 ?_
  obtain ⟨N2, eN2, hf⟩ := o_ls hf
  refine b_put hx hb hts in_X1 tyX1 tyX1_ok nmX1 hown hW 1 0 1 16 rfl vW_0 (vW_p16 eN2) rfl rfl (by decide) ⟨rfl, rfl, rfl⟩ (hts _ q178) rfl (ty := .int) rfl rfl rfl (by rw [vW_l]; decide) dX0_lives_10 (fun H locs hW => ?_)
  have hW : bW D g A s H locs [xW g adX (adN 0) (adT 0) iX X, vW g adN N2, gW L kd nu aa] := hW
  refine lv_aload_n hx hb dX0_lives_13 rfl (lv_at hl 0 rfl) ?_
  refine b_get hx hb hts in_X0 hown hW 0 0 0 0 rfl xW_0 rfl (by decide) ⟨rfl, rfl, rfl⟩ (hts _ q227) xW_g0 dX0_lives_14 ?_
  refine lv_iload_n hx hb dX0_lives_17 rfl (lv_at hl 1 rfl) ?_
  refine lv_iconst (v := (-1)) hx hb dX0_lives_18 (by decide) ?_
  obtain ⟨r3, N4, hc4, hf⟩ := o_b2s hf
  have hp4 : List.Perm [xW g adX (adN 0) (adT 0) iX X, vW g adN N2, gW L kd nu aa] ([vW g adN N2, gW L kd nu aa] ++ [xW g adX (adN 0) (adT 0) iX X]) := b_perm [1, 2] [0] 3 rfl rfl rfl rfl
  refine b_call0 ⟨rfl, rfl⟩ (va_runV (As := [.int x1, .int (-1)]) (rest := []) ⟨hx, hb, hml, hown, hts⟩ (m_X1_years l D g H.size adN fu N2 L kd nu aa x1 (-1) r3 N4 hc4) (cwV 2 hts (lw_V q1274 q1275 q1276 q77 q1277) rfl rfl rfl (by decide +kernel) ⟨Nat.le_of_ble_eq_true rfl, Nat.le_of_ble_eq_true rfl⟩) (b_preV (pp := 1) (q := 0) hW hp4 rfl vW_0 rfl) rfl rfl hl.1 rfl (lv_room (Nat.le_of_ble_eq_true rfl)) dX0_lives_19 ⟨Nat.le_of_ble_eq_true rfl, Nat.le_of_ble_eq_true rfl⟩) hW hp4 (fun _ _ H locs hW => ?_)
  have hW : bW D g A s H locs [vW g adN N4, gW L kd nu aa, xW g adX (adN 0) (adT 0) iX X] := hW
  cases hf
  exact b_iret hx hb hr hlk hE (b_perms hW (b_ord [2, 0, 1] 3 rfl rfl rfl)) () rfl trivial rfl dX0_lives_22
def f_X0_year (fu : Nat) (X : BC) (N : BC) (L : List Nat) (kd : Nat → Nat) (nu : Nat → Int32) (aa : Nat → Int32) : Option (Int32 × BC) :=
 o_b2 (f_X0_lives fu X N L kd nu aa 1) fun (r1 : Int32) (N2 : BC) =>
 some (r1, N2)
abbrev rm_X0_year : Room := { frames := 9, cells := 0, slots := 0, locals := 209 }
set_option maxHeartbeats 4000000 in
set_option maxRecDepth 100000 in
theorem m_X0_year (l : Launch) (D : va_G) (g : Nat → ClassId) (sz : Nat) (adX : Nat → Nat) (iX : Option Nat) (adN : Nat → Nat) (adT : Nat → Nat) (fu : Nat) (X : BC) (N : BC) (L : List Nat) (kd : Nat → Nat) (nu : Nat → Int32) (aa : Nat → Int32) (rO : Int32) (NO : BC) (hf : f_X0_year fu X N L kd nu aa = some (rO, NO)) : bMet (S := Unit) l yX0_year (ws_ yX0_year cX0_year 1 (some .int)) rm_X0_year D g sz [.ref (adX 0)] [xW g adX (adN 0) (adT 0) iX X, vW g adN N, gW L kd nu aa] (fun _ => True) (fun _ => some (.int rO)) (fun _ => [xW g adX (adN 0) (adT 0) iX X, vW g adN NO, gW L kd nu aa]) := by
  refine b_met (by decide) (Nat.le_of_ble_eq_true rfl) ?_
  intro p e s m args below meth c A Q ls hx hb hml hr hlk hown hname hts hE hl hW
  revert hW; generalize s.heap = H; intro hW
  have hl : lv_has ls 1 [(0, .ref (adX 0))] := hl
  rw [f_X0_year] at hf
  refine lv_aload_n hx hb dX0_year_0 rfl (lv_at hl 0 rfl) ?_
  refine lv_iconst (v := 1) hx hb dX0_year_1 (by decide) ?_
  obtain ⟨r1, N2, hc2, hf⟩ := o_b2s hf
  have hp2 : List.Perm [xW g adX (adN 0) (adT 0) iX X, vW g adN N, gW L kd nu aa] ([xW g adX (adN 0) (adT 0) iX X, vW g adN N, gW L kd nu aa] ++ []) := b_perm [0, 1, 2] [] 3 rfl rfl rfl rfl
  refine b_call0 ⟨rfl, rfl⟩ (va_runV (As := [.int 1]) (rest := []) ⟨hx, hb, hml, hown, hts⟩ (m_X0_lives l D g H.size adX iX adN adT fu X N L kd nu aa 1 r1 N2 hc2) (cwV 1 hts (lw_V q1401 q1403 qs30 q76 q1404) rfl rfl rfl (by decide +kernel) ⟨Nat.le_of_ble_eq_true rfl, Nat.le_of_ble_eq_true rfl⟩) (b_preV (pp := 0) (q := 0) hW hp2 rfl xW_0 rfl) rfl rfl hl.1 rfl (lv_room (Nat.le_of_ble_eq_true rfl)) dX0_year_2 ⟨Nat.le_of_ble_eq_true rfl, Nat.le_of_ble_eq_true rfl⟩) hW hp2 (fun _ _ H locs hW => ?_)
  have hW : bW D g A s H locs [xW g adX (adN 0) (adT 0) iX X, vW g adN N2, gW L kd nu aa] := hW
  cases hf
  exact b_iret hx hb hr hlk hE hW () rfl trivial rfl dX0_year_5
def f_X0_goes (fu : Nat) (X : BC) (N : BC) (L : List Nat) (kd : Nat → Nat) (nu : Nat → Int32) (aa : Nat → Int32) (x1 : Int32) : Option (Int32 × BC × BC) :=
 o_b1 (f_X0_isYears x1) fun (r1 : Int32) =>
 (if r1 = 0 then
 o_b2 (f_X0_noLow X (-2)) fun (r3 : Int32) (X4 : BC) =>
 some (r3, X4, N)
 else
 o_b2 (f_X0_lives fu X N L kd nu aa x1) fun (r5 : Int32) (N6 : BC) =>
 some (r5, X, N6))
abbrev rm_X0_goes : Room := { frames := 9, cells := 0, slots := 0, locals := 209 }
set_option maxHeartbeats 4000000 in
set_option maxRecDepth 100000 in
theorem m_X0_goes (l : Launch) (D : va_G) (g : Nat → ClassId) (sz : Nat) (adX : Nat → Nat) (iX : Option Nat) (adN : Nat → Nat) (adT : Nat → Nat) (fu : Nat) (X : BC) (N : BC) (L : List Nat) (kd : Nat → Nat) (nu : Nat → Int32) (aa : Nat → Int32) (x1 : Int32) (rO : Int32) (XO : BC) (NO : BC) (hf : f_X0_goes fu X N L kd nu aa x1 = some (rO, XO, NO)) : bMet (S := Unit) l yX0_goes (ws_ yX0_goes cX0_goes 2 (some .int)) rm_X0_goes D g sz [.ref (adX 0), .int x1] [xW g adX (adN 0) (adT 0) iX X, vW g adN N, gW L kd nu aa] (fun _ => True) (fun _ => some (.int rO)) (fun _ => [xW g adX (adN 0) (adT 0) iX XO, vW g adN NO, gW L kd nu aa]) := by
  refine b_met (by decide) (Nat.le_of_ble_eq_true rfl) ?_
  intro p e s m args below meth c A Q ls hx hb hml hr hlk hown hname hts hE hl hW
  revert hW; generalize s.heap = H; intro hW
  have hl : lv_has ls 2 [(0, .ref (adX 0)), (1, .int x1)] := hl
  rw [f_X0_goes] at hf
  refine lv_iload_n hx hb dX0_goes_0 rfl (lv_at hl 1 rfl) ?_
  obtain ⟨r1, hc1, hf⟩ := o_b1s hf
  have hp1 : List.Perm [xW g adX (adN 0) (adT 0) iX X, vW g adN N, gW L kd nu aa] ([] ++ [xW g adX (adN 0) (adT 0) iX X, vW g adN N, gW L kd nu aa]) := b_perm [] [0, 1, 2] 3 rfl rfl rfl rfl
  refine b_call0 ⟨rfl, rfl⟩ (va_runS (As := [.int x1]) (rest := []) ⟨hx, hb, hml, hown, hts⟩ (m_X0_isYears l D g H.size x1 r1 hc1) (va_cwS 1 hts (lw_S q1271 q1272 q76 q1273) rfl rfl rfl (by decide +kernel) ⟨Nat.le_of_ble_eq_true rfl, Nat.le_of_ble_eq_true rfl⟩) (b_preS hW hp1) rfl rfl hl.1 rfl (lv_room (Nat.le_of_ble_eq_true rfl)) dX0_goes_1 ⟨Nat.le_of_ble_eq_true rfl, Nat.le_of_ble_eq_true rfl⟩) hW hp1 (fun _ _ H locs hW => ?_)
  have hW : bW D g A s H locs [xW g adX (adN 0) (adT 0) iX X, vW g adN N, gW L kd nu aa] := hW
  refine lv_if_eq (tgt := 15) hx hb dX0_goes_4 (by decide) (fun c2 => ?_) (fun c2 => ?_)
  · have hf := o_t hf c2
    refine lv_aload_n hx hb dX0_goes_15 rfl (lv_at hl 0 rfl) ?_
    refine lv_bipush (v := (-2)) hx hb dX0_goes_16 (by decide) ?_
    obtain ⟨r3, X4, hc4, hf⟩ := o_b2s hf
    have hp4 : List.Perm [xW g adX (adN 0) (adT 0) iX X, vW g adN N, gW L kd nu aa] ([xW g adX (adN 0) (adT 0) iX X] ++ [vW g adN N, gW L kd nu aa]) := b_perm [0] [1, 2] 3 rfl rfl rfl rfl
    refine b_call0 ⟨rfl, rfl⟩ (va_runV (As := [.int (-2)]) (rest := []) ⟨hx, hb, hml, hown, hts⟩ (m_X0_noLow l D g H.size adX iX adN adT X (-2) r3 X4 hc4) (cwV 1 hts (lw_V q1126 q1128 qs18 q76 q1129) rfl rfl rfl (by decide +kernel) ⟨Nat.le_of_ble_eq_true rfl, Nat.le_of_ble_eq_true rfl⟩) (b_preV (pp := 0) (q := 0) hW hp4 rfl xW_0 rfl) rfl rfl hl.1 rfl (lv_room (Nat.le_of_ble_eq_true rfl)) dX0_goes_18 ⟨Nat.le_of_ble_eq_true rfl, Nat.le_of_ble_eq_true rfl⟩) hW hp4 (fun _ _ H locs hW => ?_)
    have hW : bW D g A s H locs [xW g adX (adN 0) (adT 0) iX X4, vW g adN N, gW L kd nu aa] := hW
    cases hf
    exact b_iret hx hb hr hlk hE hW () rfl trivial rfl dX0_goes_21
  · have hf := o_f hf c2
    refine lv_aload_n hx hb dX0_goes_7 rfl (lv_at hl 0 rfl) ?_
    refine lv_iload_n hx hb dX0_goes_8 rfl (lv_at hl 1 rfl) ?_
    obtain ⟨r5, N6, hc6, hf⟩ := o_b2s hf
    have hp6 : List.Perm [xW g adX (adN 0) (adT 0) iX X, vW g adN N, gW L kd nu aa] ([xW g adX (adN 0) (adT 0) iX X, vW g adN N, gW L kd nu aa] ++ []) := b_perm [0, 1, 2] [] 3 rfl rfl rfl rfl
    refine b_call0 ⟨rfl, rfl⟩ (va_runV (As := [.int x1]) (rest := []) ⟨hx, hb, hml, hown, hts⟩ (m_X0_lives l D g H.size adX iX adN adT fu X N L kd nu aa x1 r5 N6 hc6) (cwV 1 hts (lw_V q1401 q1403 qs30 q76 q1404) rfl rfl rfl (by decide +kernel) ⟨Nat.le_of_ble_eq_true rfl, Nat.le_of_ble_eq_true rfl⟩) (b_preV (pp := 0) (q := 0) hW hp6 rfl xW_0 rfl) rfl rfl hl.1 rfl (lv_room (Nat.le_of_ble_eq_true rfl)) dX0_goes_9 ⟨Nat.le_of_ble_eq_true rfl, Nat.le_of_ble_eq_true rfl⟩) hW hp6 (fun _ _ H locs hW => ?_)
    have hW : bW D g A s H locs [xW g adX (adN 0) (adT 0) iX X, vW g adN N6, gW L kd nu aa] := hW
    refine lv_goto (tgt := 21) hx hb dX0_goes_12 (by decide) ?_
    cases hf
    exact b_iret hx hb hr hlk hE hW () rfl trivial rfl dX0_goes_21
def f_X0_post_L38 (X : BC) (x1 : Int32) (rec4 : (Int32 × Int32 × BC) → Option (Int32 × BC × BC)) : Int32 × Int32 × BC → Option (Int32 × BC × BC)
  | (v5, v6, N7) =>
    (if x1 ≤ v6 then
     some (v5, X, N7)
     else
     o_b2 (f_X1_draw N7 (N7.1 0 0)) fun (r9 : Int32) (N10 : BC) =>
     o_ck (inB r9 6) (o_b2 (f_X1_draw N10 21) fun (r12 : Int32) (N13 : BC) =>
     o_b1 (f_X0_within (((N10.1 1 (ix r9)) + r12) - 10) 100) fun (r14 : Int32) =>
     (if (99 : Int32) ≤ (N13.1 6 (ix r9)) then
     o_lt (v6 + 1) fun (v16 : Int32) =>
     rec4 (v5, v16, N13)
     else
     o_b1 (f_X1_gets N13 r9 r14) fun (N17 : BC) =>
     o_lt (v5 + 1) fun (v18 : Int32) =>
     o_lt (v6 + 1) fun (v19 : Int32) =>
     rec4 (v18, v19, N17))))
def f_X0_post (fu : Nat) (X : BC) (N : BC) (T : BC) (L : List Nat) (kd : Nat → Nat) (nu : Nat → Int32) (aa : Nat → Int32) (x1 : Int32) : Option (Int32 × BC × BC) :=
 o_b1 (f_X0_isIn x1 1 40) fun (r1 : Int32) =>
 (if r1 = 0 then
 o_b2 (f_X0_no X (-2)) fun (r22 : Int32) (X23 : BC) =>
 some (r22, X23, N)
 else
 (if (N.1 0 0) = 0 then
 o_b2 (f_X0_no X (-5)) fun (r20 : Int32) (X21 : BC) =>
 some (r20, X21, N)
 else
 o_lp (f_X0_post_L38 X x1) fu (0, 0, N)))
abbrev rm_X0_post : Room := { frames := 2, cells := 0, slots := 0, locals := 45 }
set_option maxHeartbeats 4000000 in
set_option maxRecDepth 100000 in
theorem m_X0_post (l : Launch) (D : va_G) (g : Nat → ClassId) (sz : Nat) (adX : Nat → Nat) (iX : Option Nat) (adN : Nat → Nat) (adT : Nat → Nat) (fu : Nat) (X : BC) (N : BC) (T : BC) (L : List Nat) (kd : Nat → Nat) (nu : Nat → Int32) (aa : Nat → Int32) (x1 : Int32) (rO : Int32) (XO : BC) (NO : BC) (hf : f_X0_post fu X N T L kd nu aa x1 = some (rO, XO, NO)) : bMet (S := Unit) l yX0_post (ws_ yX0_post cX0_post 6 (some .int)) rm_X0_post D g sz [.ref (adX 0), .int x1] [xW g adX (adN 0) (adT 0) iX X, vW g adN N, vW g adT T, gW L kd nu aa] (fun _ => True) (fun _ => some (.int rO)) (fun _ => [xW g adX (adN 0) (adT 0) iX XO, vW g adN NO, vW g adT T, gW L kd nu aa]) := by
  refine b_met (by decide) (Nat.le_of_ble_eq_true rfl) ?_
  intro p e s m args below meth c A Q ls hx hb hml hr hlk hown hname hts hE hl hW
  revert hW; generalize s.heap = H; intro hW
  have hl : lv_has ls 6 [(0, .ref (adX 0)), (1, .int x1)] := hl
  rw [f_X0_post] at hf
  refine lv_iload_n hx hb dX0_post_0 rfl (lv_at hl 1 rfl) ?_
  refine lv_iconst (v := 1) hx hb dX0_post_1 (by decide) ?_
  refine lv_bipush (v := 40) hx hb dX0_post_2 (by decide) ?_
  obtain ⟨r1, hc1, hf⟩ := o_b1s hf
  have hp1 : List.Perm [xW g adX (adN 0) (adT 0) iX X, vW g adN N, vW g adT T, gW L kd nu aa] ([] ++ [xW g adX (adN 0) (adT 0) iX X, vW g adN N, vW g adT T, gW L kd nu aa]) := b_perm [] [0, 1, 2, 3] 4 rfl rfl rfl rfl
  refine b_call0 ⟨rfl, rfl⟩ (va_runS (As := [.int x1, .int 1, .int 40]) (rest := []) ⟨hx, hb, hml, hown, hts⟩ (m_X0_isIn l D g H.size x1 1 40 r1 hc1) (va_cwS 3 hts (lw_S q344 q345 q76 q346) rfl rfl rfl (by decide +kernel) ⟨Nat.le_of_ble_eq_true rfl, Nat.le_of_ble_eq_true rfl⟩) (b_preS hW hp1) rfl rfl hl.1 rfl (lv_room (Nat.le_of_ble_eq_true rfl)) dX0_post_4 ⟨Nat.le_of_ble_eq_true rfl, Nat.le_of_ble_eq_true rfl⟩) hW hp1 (fun _ _ H locs hW => ?_)
  have hW : bW D g A s H locs [xW g adX (adN 0) (adT 0) iX X, vW g adN N, vW g adT T, gW L kd nu aa] := hW
  refine lv_if_ne (tgt := 17) hx hb dX0_post_7 (by decide) (fun c2 => ?_) (fun c2 => ?_)
  · have hf := o_f hf c2
    refine lv_aload_n hx hb dX0_post_17 rfl (lv_at hl 0 rfl) ?_
    refine b_get hx hb hts in_X0 hown hW 0 0 0 0 rfl xW_0 rfl (by decide) ⟨rfl, rfl, rfl⟩ (hts _ q227) xW_g0 dX0_post_18 ?_
    refine b_get hx hb hts in_X1 hown hW 1 0 1 12 rfl vW_0 rfl (by decide) ⟨rfl, rfl, rfl⟩ (hts _ q167) vW_g12 dX0_post_21 ?_
    refine lv_if_ne (tgt := 34) hx hb dX0_post_24 (by decide) (fun c3 => ?_) (fun c3 => ?_)
    · have hf := o_f hf c3
      refine lv_iconst (v := 0) hx hb dX0_post_34 (by decide) ?_
      refine lv_istore_n (lv' := [(2, .int 0), (0, .ref (adX 0)), (1, .int x1)]) hx hb dX0_post_35 rfl hl (by decide) rfl (fun ls hl => ?_)
      refine lv_iconst (v := 0) hx hb dX0_post_36 (by decide) ?_
      refine lv_istore_n (lv' := [(3, .int 0), (2, .int 0), (0, .ref (adX 0)), (1, .int x1)]) hx hb dX0_post_37 rfl hl (by decide) rfl (fun ls hl => ?_)
      obtain ⟨stp4, est4, hf⟩ := o_ln hf
      have L4 : ∀ (n : Nat) (v5 : Int32) (v6 : Int32) (N7 : BC) (H : Heap) (locs : List Loc) (ls : Array Slot), bW D g A s H locs [xW g adX (adN 0) (adT 0) iX X, vW g adN N7, vW g adT T, gW L kd nu aa] → lv_has ls 6 [(3, .int v6), (2, .int v5), (0, .ref (adX 0)), (1, .int x1)] → o_lp stp4 n (v5, v6, N7) = some (rO, XO, NO) → W p l e rm_X0_post s m args below meth c H locs 0 0 Q (F0 m 38 ls []) := by
        intro n4
        induction n4 with
        | zero => intro v5 v6 N7 H locs ls hW hl hf; exact (o_lz hf).elim
        | succ n4 ih4 =>
          intro v5 v6 N7 H locs ls hW hl hf
          have hf := o_lu est4 hf
          rw [f_X0_post_L38] at hf
          refine lv_iload_n hx hb dX0_post_38 rfl (lv_at hl 0 rfl) ?_
          refine lv_iload_n hx hb dX0_post_39 rfl (lv_at hl 3 rfl) ?_
          refine lv_icmp_ge (tgt := 124) hx hb dX0_post_40 (by decide) (fun c8 => ?_) (fun c8 => ?_)
          · have hf := o_t hf c8
            refine lv_iload_n hx hb dX0_post_124 rfl (lv_at hl 1 rfl) ?_
            cases hf
            exact b_iret hx hb hr hlk hE hW () rfl trivial rfl dX0_post_125
          · have hf := o_f hf c8
            refine lv_aload_n hx hb dX0_post_43 rfl (lv_at hl 2 rfl) ?_
            refine b_get hx hb hts in_X0 hown hW 0 0 0 0 rfl xW_0 rfl (by decide) ⟨rfl, rfl, rfl⟩ (hts _ q227) xW_g0 dX0_post_44 ?_
            refine lv_aload_n hx hb dX0_post_47 rfl (lv_at hl 2 rfl) ?_
            refine b_get hx hb hts in_X0 hown hW 0 0 0 0 rfl xW_0 rfl (by decide) ⟨rfl, rfl, rfl⟩ (hts _ q227) xW_g0 dX0_post_48 ?_
            refine b_get hx hb hts in_X1 hown hW 1 0 1 12 rfl vW_0 rfl (by decide) ⟨rfl, rfl, rfl⟩ (hts _ q167) vW_g12 dX0_post_51 ?_
            obtain ⟨r9, N10, hc10, hf⟩ := o_b2s hf
            have hp10 : List.Perm [xW g adX (adN 0) (adT 0) iX X, vW g adN N7, vW g adT T, gW L kd nu aa] ([vW g adN N7] ++ [xW g adX (adN 0) (adT 0) iX X, vW g adT T, gW L kd nu aa]) := b_perm [1] [0, 2, 3] 4 rfl rfl rfl rfl
            refine b_call0 ⟨rfl, rfl⟩ (va_runV (As := [.int (N7.1 0 0)]) (rest := []) ⟨hx, hb, hml, hown, hts⟩ (m_X1_draw l D g H.size adN N7 (N7.1 0 0) r9 N10 hc10) (cwV 1 hts (lw_V q1413 q1414 q1415 q77 q1416) rfl rfl rfl (by decide +kernel) ⟨Nat.le_of_ble_eq_true rfl, Nat.le_of_ble_eq_true rfl⟩) (b_preV (pp := 1) (q := 0) hW hp10 rfl vW_0 rfl) rfl rfl hl.1 rfl (lv_room (Nat.le_of_ble_eq_true rfl)) dX0_post_54 ⟨Nat.le_of_ble_eq_true rfl, Nat.le_of_ble_eq_true rfl⟩) hW hp10 (fun _ _ H locs hW => ?_)
            have hW : bW D g A s H locs [vW g adN N10, xW g adX (adN 0) (adT 0) iX X, vW g adT T, gW L kd nu aa] := hW
            refine lv_istore (lv' := [(4, .int r9), (3, .int v6), (2, .int v5), (0, .ref (adX 0)), (1, .int x1)]) hx hb dX0_post_57 hl (by decide) rfl (fun ls hl => ?_)
            refine lv_aload_n hx hb dX0_post_59 rfl (lv_at hl 3 rfl) ?_
            refine b_get hx hb hts in_X0 hown hW 1 0 0 0 rfl xW_0 rfl (by decide) ⟨rfl, rfl, rfl⟩ (hts _ q227) xW_g0 dX0_post_60 ?_
            refine b_get hx hb hts in_X1 hown hW 0 0 1 0 rfl vW_0 rfl (by decide) ⟨rfl, rfl, rfl⟩ (hts _ q131) vW_g0 dX0_post_63 ?_
            refine lv_iload hx hb dX0_post_66 (lv_at hl 0 rfl) ?_
            obtain ⟨h11, hf⟩ := o_cs hf
            refine b_iald hx hb hW 0 1 rfl vW_1 h11 dX0_post_68 ?_
            refine lv_aload_n hx hb dX0_post_69 rfl (lv_at hl 3 rfl) ?_
            refine b_get hx hb hts in_X0 hown hW 1 0 0 0 rfl xW_0 rfl (by decide) ⟨rfl, rfl, rfl⟩ (hts _ q227) xW_g0 dX0_post_70 ?_
            refine lv_bipush (v := 21) hx hb dX0_post_73 (by decide) ?_
            obtain ⟨r12, N13, hc13, hf⟩ := o_b2s hf
            have hp13 : List.Perm [vW g adN N10, xW g adX (adN 0) (adT 0) iX X, vW g adT T, gW L kd nu aa] ([vW g adN N10] ++ [xW g adX (adN 0) (adT 0) iX X, vW g adT T, gW L kd nu aa]) := b_perm [0] [1, 2, 3] 4 rfl rfl rfl rfl
            refine b_call0 ⟨rfl, rfl⟩ (va_runV (As := [.int 21]) (rest := [.int (N10.1 1 (ix r9))]) ⟨hx, hb, hml, hown, hts⟩ (m_X1_draw l D g H.size adN N10 21 r12 N13 hc13) (cwV 1 hts (lw_V q1413 q1414 q1415 q77 q1416) rfl rfl rfl (by decide +kernel) ⟨Nat.le_of_ble_eq_true rfl, Nat.le_of_ble_eq_true rfl⟩) (b_preV (pp := 0) (q := 0) hW hp13 rfl vW_0 rfl) rfl rfl hl.1 rfl (lv_room (Nat.le_of_ble_eq_true rfl)) dX0_post_75 ⟨Nat.le_of_ble_eq_true rfl, Nat.le_of_ble_eq_true rfl⟩) hW hp13 (fun _ _ H locs hW => ?_)
            have hW : bW D g A s H locs [vW g adN N13, xW g adX (adN 0) (adT 0) iX X, vW g adT T, gW L kd nu aa] := hW
            refine lv_iadd hx hb dX0_post_78 ?_
            refine lv_bipush (v := 10) hx hb dX0_post_79 (by decide) ?_
            refine lv_isub hx hb dX0_post_81 ?_
            refine lv_bipush (v := 100) hx hb dX0_post_82 (by decide) ?_
            obtain ⟨r14, hc14, hf⟩ := o_b1s hf
            have hp14 : List.Perm [vW g adN N13, xW g adX (adN 0) (adT 0) iX X, vW g adT T, gW L kd nu aa] ([] ++ [vW g adN N13, xW g adX (adN 0) (adT 0) iX X, vW g adT T, gW L kd nu aa]) := b_perm [] [0, 1, 2, 3] 4 rfl rfl rfl rfl
            refine b_call0 ⟨rfl, rfl⟩ (va_runS (As := [.int (((N10.1 1 (ix r9)) + r12) - 10), .int 100]) (rest := []) ⟨hx, hb, hml, hown, hts⟩ (m_X0_within l D g H.size (((N10.1 1 (ix r9)) + r12) - 10) 100 r14 hc14) (va_cwS 2 hts (lw_S q1418 q1419 q76 q1420) rfl rfl rfl (by decide +kernel) ⟨Nat.le_of_ble_eq_true rfl, Nat.le_of_ble_eq_true rfl⟩) (b_preS hW hp14) rfl rfl hl.1 rfl (lv_room (Nat.le_of_ble_eq_true rfl)) dX0_post_84 ⟨Nat.le_of_ble_eq_true rfl, Nat.le_of_ble_eq_true rfl⟩) hW hp14 (fun _ _ H locs hW => ?_)
            have hW : bW D g A s H locs [vW g adN N13, xW g adX (adN 0) (adT 0) iX X, vW g adT T, gW L kd nu aa] := hW
            refine lv_istore (lv' := [(5, .int r14), (4, .int r9), (3, .int v6), (2, .int v5), (0, .ref (adX 0)), (1, .int x1)]) hx hb dX0_post_87 hl (by decide) rfl (fun ls hl => ?_)
            refine lv_aload_n hx hb dX0_post_89 rfl (lv_at hl 4 rfl) ?_
            refine b_get hx hb hts in_X0 hown hW 1 0 0 0 rfl xW_0 rfl (by decide) ⟨rfl, rfl, rfl⟩ (hts _ q227) xW_g0 dX0_post_90 ?_
            refine b_get hx hb hts in_X1 hown hW 0 0 1 5 rfl vW_0 rfl (by decide) ⟨rfl, rfl, rfl⟩ (hts _ q149) vW_g5 dX0_post_93 ?_
            refine lv_iload hx hb dX0_post_96 (lv_at hl 1 rfl) ?_
            refine b_iald hx hb hW 0 6 rfl vW_6 h11 dX0_post_98 ?_
            refine lv_bipush (v := 99) hx hb dX0_post_99 (by decide) ?_
            refine lv_icmp_ge (tgt := 118) hx hb dX0_post_101 (by decide) (fun c15 => ?_) (fun c15 => ?_)
            · have hf := o_t hf c15
              obtain ⟨v16, ev16, hf⟩ := o_ls hf
              refine lv_iinc (v := v16) (lv' := [(3, .int v16), (5, .int r14), (4, .int r9), (2, .int v5), (0, .ref (adX 0)), (1, .int x1)]) hx hb dX0_post_118 hl (k := 2) rfl ev16 (by decide) rfl (fun ls hl => ?_)
              refine lv_goto (tgt := 38) hx hb dX0_post_121 (by decide) ?_
              exact ih4 _ _ _ _ _ _ (b_perms hW (b_ord [1, 0, 2, 3] 4 rfl rfl rfl)) (lv_sub hl [0, 3, 4, 5] rfl) hf
            · have hf := o_f hf c15
              refine lv_aload_n hx hb dX0_post_104 rfl (lv_at hl 4 rfl) ?_
              refine b_get hx hb hts in_X0 hown hW 1 0 0 0 rfl xW_0 rfl (by decide) ⟨rfl, rfl, rfl⟩ (hts _ q227) xW_g0 dX0_post_105 ?_
              refine lv_iload hx hb dX0_post_108 (lv_at hl 1 rfl) ?_
              refine lv_iload hx hb dX0_post_110 (lv_at hl 0 rfl) ?_
              obtain ⟨N17, hc17, hf⟩ := o_b1s hf
              have hp17 : List.Perm [vW g adN N13, xW g adX (adN 0) (adT 0) iX X, vW g adT T, gW L kd nu aa] ([vW g adN N13] ++ [xW g adX (adN 0) (adT 0) iX X, vW g adT T, gW L kd nu aa]) := b_perm [0] [1, 2, 3] 4 rfl rfl rfl rfl
              refine b_call0 ⟨rfl, rfl⟩ (va_runV (As := [.int r9, .int r14]) (rest := []) ⟨hx, hb, hml, hown, hts⟩ (m_X1_gets l D g H.size adN N13 r9 r14 N17 hc17) (cwV 2 hts (lw_V q700 q701 q702 q77 q703) rfl rfl rfl (by decide +kernel) ⟨Nat.le_of_ble_eq_true rfl, Nat.le_of_ble_eq_true rfl⟩) (b_preV (pp := 0) (q := 0) hW hp17 rfl vW_0 rfl) rfl rfl hl.1 rfl (lv_room (Nat.le_of_ble_eq_true rfl)) dX0_post_112 ⟨Nat.le_of_ble_eq_true rfl, Nat.le_of_ble_eq_true rfl⟩) hW hp17 (fun _ _ H locs hW => ?_)
              have hW : bW D g A s H locs [vW g adN N17, xW g adX (adN 0) (adT 0) iX X, vW g adT T, gW L kd nu aa] := hW
              obtain ⟨v18, ev18, hf⟩ := o_ls hf
              refine lv_iinc (v := v18) (lv' := [(2, .int v18), (5, .int r14), (4, .int r9), (3, .int v6), (0, .ref (adX 0)), (1, .int x1)]) hx hb dX0_post_115 hl (k := 3) rfl ev18 (by decide) rfl (fun ls hl => ?_)
              obtain ⟨v19, ev19, hf⟩ := o_ls hf
              refine lv_iinc (v := v19) (lv' := [(3, .int v19), (2, .int v18), (5, .int r14), (4, .int r9), (0, .ref (adX 0)), (1, .int x1)]) hx hb dX0_post_118 hl (k := 3) rfl ev19 (by decide) rfl (fun ls hl => ?_)
              refine lv_goto (tgt := 38) hx hb dX0_post_121 (by decide) ?_
              exact ih4 _ _ _ _ _ _ (b_perms hW (b_ord [1, 0, 2, 3] 4 rfl rfl rfl)) (lv_sub hl [0, 1, 4, 5] rfl) hf
      exact L4 _ _ _ _ _ _ _ hW (lv_sub hl [0, 1, 2, 3] rfl) hf
    · have hf := o_t hf c3
      refine lv_aload_n hx hb dX0_post_27 rfl (lv_at hl 0 rfl) ?_
      refine lv_bipush (v := (-5)) hx hb dX0_post_28 (by decide) ?_
      obtain ⟨r20, X21, hc21, hf⟩ := o_b2s hf
      have hp21 : List.Perm [xW g adX (adN 0) (adT 0) iX X, vW g adN N, vW g adT T, gW L kd nu aa] ([xW g adX (adN 0) (adT 0) iX X] ++ [vW g adN N, vW g adT T, gW L kd nu aa]) := b_perm [0] [1, 2, 3] 4 rfl rfl rfl rfl
      refine b_call0 ⟨rfl, rfl⟩ (va_runV (As := [.int (-5)]) (rest := []) ⟨hx, hb, hml, hown, hts⟩ (m_X0_no l D g H.size adX iX adN adT X (-5) r20 X21 hc21) (cwV 1 hts (lw_V q347 q349 qs2 q76 q350) rfl rfl rfl (by decide +kernel) ⟨Nat.le_of_ble_eq_true rfl, Nat.le_of_ble_eq_true rfl⟩) (b_preV (pp := 0) (q := 0) hW hp21 rfl xW_0 rfl) rfl rfl hl.1 rfl (lv_room (Nat.le_of_ble_eq_true rfl)) dX0_post_30 ⟨Nat.le_of_ble_eq_true rfl, Nat.le_of_ble_eq_true rfl⟩) hW hp21 (fun _ _ H locs hW => ?_)
      have hW : bW D g A s H locs [xW g adX (adN 0) (adT 0) iX X21, vW g adN N, vW g adT T, gW L kd nu aa] := hW
      cases hf
      exact b_iret hx hb hr hlk hE hW () rfl trivial rfl dX0_post_33
  · have hf := o_t hf c2
    refine lv_aload_n hx hb dX0_post_10 rfl (lv_at hl 0 rfl) ?_
    refine lv_bipush (v := (-2)) hx hb dX0_post_11 (by decide) ?_
    obtain ⟨r22, X23, hc23, hf⟩ := o_b2s hf
    have hp23 : List.Perm [xW g adX (adN 0) (adT 0) iX X, vW g adN N, vW g adT T, gW L kd nu aa] ([xW g adX (adN 0) (adT 0) iX X] ++ [vW g adN N, vW g adT T, gW L kd nu aa]) := b_perm [0] [1, 2, 3] 4 rfl rfl rfl rfl
    refine b_call0 ⟨rfl, rfl⟩ (va_runV (As := [.int (-2)]) (rest := []) ⟨hx, hb, hml, hown, hts⟩ (m_X0_no l D g H.size adX iX adN adT X (-2) r22 X23 hc23) (cwV 1 hts (lw_V q347 q349 qs2 q76 q350) rfl rfl rfl (by decide +kernel) ⟨Nat.le_of_ble_eq_true rfl, Nat.le_of_ble_eq_true rfl⟩) (b_preV (pp := 0) (q := 0) hW hp23 rfl xW_0 rfl) rfl rfl hl.1 rfl (lv_room (Nat.le_of_ble_eq_true rfl)) dX0_post_13 ⟨Nat.le_of_ble_eq_true rfl, Nat.le_of_ble_eq_true rfl⟩) hW hp23 (fun _ _ H locs hW => ?_)
    have hW : bW D g A s H locs [xW g adX (adN 0) (adT 0) iX X23, vW g adN N, vW g adT T, gW L kd nu aa] := hW
    cases hf
    exact b_iret hx hb hr hlk hE hW () rfl trivial rfl dX0_post_16
def f_X0_seed (X : BC) (N : BC) (x1 : Int32) : Option (Int32 × BC) :=
 o_lt (N.1 0 3) fun (v1 : Int32) =>
 o_lt (bI N 0 (upd (N.1 0) 3 x1)) fun (N2 : BC) =>
 some (v1, N2)
abbrev rm_X0_seed : Room := { frames := 0, cells := 0, slots := 0, locals := 0 }
set_option maxHeartbeats 4000000 in
set_option maxRecDepth 100000 in
theorem m_X0_seed (l : Launch) (D : va_G) (g : Nat → ClassId) (sz : Nat) (adX : Nat → Nat) (iX : Option Nat) (adN : Nat → Nat) (adT : Nat → Nat) (X : BC) (N : BC) (x1 : Int32) (rO : Int32) (NO : BC) (hf : f_X0_seed X N x1 = some (rO, NO)) : bMet (S := Unit) l yX0_seed (ws_ yX0_seed cX0_seed 3 (some .int)) rm_X0_seed D g sz [.ref (adX 0), .int x1] [xW g adX (adN 0) (adT 0) iX X, vW g adN N] (fun _ => True) (fun _ => some (.int rO)) (fun _ => [xW g adX (adN 0) (adT 0) iX X, vW g adN NO]) := by
  refine b_met (by decide) (Nat.le_of_ble_eq_true rfl) ?_
  intro p e s m args below meth c A Q ls hx hb hml hr hlk hown hname hts hE hl hW
  revert hW; generalize s.heap = H; intro hW
  have hl : lv_has ls 3 [(0, .ref (adX 0)), (1, .int x1)] := hl
  rw [f_X0_seed] at hf
  refine lv_aload_n hx hb dX0_seed_0 rfl (lv_at hl 0 rfl) ?_
  refine b_get hx hb hts in_X0 hown hW 0 0 0 0 rfl xW_0 rfl (by decide) ⟨rfl, rfl, rfl⟩ (hts _ q227) xW_g0 dX0_seed_1 ?_
  refine b_get hx hb hts in_X1 hown hW 1 0 1 15 rfl vW_0 rfl (by decide) ⟨rfl, rfl, rfl⟩ (hts _ q176) vW_g15 dX0_seed_4 ?_
  obtain ⟨v1, ev1, hf⟩ := o_ls hf
  refine b_topi ev1 ?_
  refine lv_istore_n (lv' := [(2, .int v1), (0, .ref (adX 0)), (1, .int x1)]) hx hb dX0_seed_7 rfl hl (by decide) rfl (fun ls hl => ?_)
  refine lv_aload_n hx hb dX0_seed_8 rfl (lv_at hl 1 rfl) ?_
  refine b_get hx hb hts in_X0 hown hW 0 0 0 0 rfl xW_0 rfl (by decide) ⟨rfl, rfl, rfl⟩ (hts _ q227) xW_g0 dX0_seed_9 ?_
  refine lv_iload_n hx hb dX0_seed_12 rfl (lv_at hl 2 rfl) ?_
  obtain ⟨N2, eN2, hf⟩ := o_ls hf
  refine b_put hx hb hts in_X1 tyX1 tyX1_ok nmX1 hown hW 1 0 1 15 rfl vW_0 (vW_p15 eN2) rfl rfl (by decide) ⟨rfl, rfl, rfl⟩ (hts _ q176) rfl (ty := .int) rfl rfl rfl (by rw [vW_l]; decide) dX0_seed_13 (fun H locs hW => ?_)
  have hW : bW D g A s H locs [xW g adX (adN 0) (adT 0) iX X, vW g adN N2] := hW
  refine lv_iload_n hx hb dX0_seed_16 rfl (lv_at hl 0 rfl) ?_
  cases hf
  exact b_iret hx hb hr hlk hE hW () rfl trivial rfl dX0_seed_17
def f_X0_inBook_L4 (N : BC) (rec1 : (Int32 × Int32) → Option Int32) : Int32 × Int32 → Option Int32
  | (v2, v3) =>
    (if (N.1 0 0) ≤ v3 then
     some v2
     else
     o_ck (inB v3 6) ((if (N.1 5 (ix v3)) = (-1) then
     o_lt (v2 ||| 0) fun (v7 : Int32) =>
     o_lt (v3 + 1) fun (v8 : Int32) =>
     rec1 (v7, v8)
     else
     o_lt (v2 ||| (1 <<< (v3 &&& 31))) fun (v9 : Int32) =>
     o_lt (v3 + 1) fun (v10 : Int32) =>
     rec1 (v9, v10))))
def f_X0_inBook (fu : Nat) (X : BC) (N : BC) (T : BC) (L : List Nat) (kd : Nat → Nat) (nu : Nat → Int32) (aa : Nat → Int32) : Option Int32 :=
 o_lp (f_X0_inBook_L4 N) fu (0, 0)
abbrev rm_X0_inBook : Room := { frames := 0, cells := 0, slots := 0, locals := 0 }
set_option maxHeartbeats 4000000 in
set_option maxRecDepth 100000 in
theorem m_X0_inBook (l : Launch) (D : va_G) (g : Nat → ClassId) (sz : Nat) (adX : Nat → Nat) (iX : Option Nat) (adN : Nat → Nat) (adT : Nat → Nat) (fu : Nat) (X : BC) (N : BC) (T : BC) (L : List Nat) (kd : Nat → Nat) (nu : Nat → Int32) (aa : Nat → Int32) (rO : Int32) (hf : f_X0_inBook fu X N T L kd nu aa = some rO) : bMet (S := Unit) l yX0_inBook (ws_ yX0_inBook cX0_inBook 3 (some .int)) rm_X0_inBook D g sz [.ref (adX 0)] [xW g adX (adN 0) (adT 0) iX X, vW g adN N, vW g adT T, gW L kd nu aa] (fun _ => True) (fun _ => some (.int rO)) (fun _ => [xW g adX (adN 0) (adT 0) iX X, vW g adN N, vW g adT T, gW L kd nu aa]) := by
  refine b_met (by decide) (Nat.le_of_ble_eq_true rfl) ?_
  intro p e s m args below meth c A Q ls hx hb hml hr hlk hown hname hts hE hl hW
  revert hW; generalize s.heap = H; intro hW
  have hl : lv_has ls 3 [(0, .ref (adX 0))] := hl
  rw [f_X0_inBook] at hf
  refine lv_iconst (v := 0) hx hb dX0_inBook_0 (by decide) ?_
  refine lv_istore_n (lv' := [(1, .int 0), (0, .ref (adX 0))]) hx hb dX0_inBook_1 rfl hl (by decide) rfl (fun ls hl => ?_)
  refine lv_iconst (v := 0) hx hb dX0_inBook_2 (by decide) ?_
  refine lv_istore_n (lv' := [(2, .int 0), (1, .int 0), (0, .ref (adX 0))]) hx hb dX0_inBook_3 rfl hl (by decide) rfl (fun ls hl => ?_)
  obtain ⟨stp1, est1, hf⟩ := o_ln hf
  have L1 : ∀ (n : Nat) (v2 : Int32) (v3 : Int32) (H : Heap) (locs : List Loc) (ls : Array Slot), bW D g A s H locs [xW g adX (adN 0) (adT 0) iX X, vW g adN N, vW g adT T, gW L kd nu aa] → lv_has ls 3 [(2, .int v3), (1, .int v2), (0, .ref (adX 0))] → o_lp stp1 n (v2, v3) = some rO → W p l e rm_X0_inBook s m args below meth c H locs 0 0 Q (F0 m 4 ls []) := by
    intro n1
    induction n1 with
    | zero => intro v2 v3 H locs ls hW hl hf; exact (o_lz hf).elim
    | succ n1 ih1 =>
      intro v2 v3 H locs ls hW hl hf
      have hf := o_lu est1 hf
      rw [f_X0_inBook_L4] at hf
      refine lv_iload_n hx hb dX0_inBook_4 rfl (lv_at hl 0 rfl) ?_
      refine lv_aload_n hx hb dX0_inBook_5 rfl (lv_at hl 2 rfl) ?_
      refine b_get hx hb hts in_X0 hown hW 0 0 0 0 rfl xW_0 rfl (by decide) ⟨rfl, rfl, rfl⟩ (hts _ q227) xW_g0 dX0_inBook_6 ?_
      refine b_get hx hb hts in_X1 hown hW 1 0 1 12 rfl vW_0 rfl (by decide) ⟨rfl, rfl, rfl⟩ (hts _ q167) vW_g12 dX0_inBook_9 ?_
      refine lv_icmp_ge (tgt := 44) hx hb dX0_inBook_12 (by decide) (fun c4 => ?_) (fun c4 => ?_)
      · have hf := o_t hf c4
        refine lv_iload_n hx hb dX0_inBook_44 rfl (lv_at hl 1 rfl) ?_
        cases hf
        exact b_iret hx hb hr hlk hE hW () rfl trivial rfl dX0_inBook_45
      · have hf := o_f hf c4
        refine lv_iload_n hx hb dX0_inBook_15 rfl (lv_at hl 1 rfl) ?_
        refine lv_aload_n hx hb dX0_inBook_16 rfl (lv_at hl 2 rfl) ?_
        refine b_get hx hb hts in_X0 hown hW 0 0 0 0 rfl xW_0 rfl (by decide) ⟨rfl, rfl, rfl⟩ (hts _ q227) xW_g0 dX0_inBook_17 ?_
        refine b_get hx hb hts in_X1 hown hW 1 0 1 4 rfl vW_0 rfl (by decide) ⟨rfl, rfl, rfl⟩ (hts _ q145) vW_g4 dX0_inBook_20 ?_
        refine lv_iload_n hx hb dX0_inBook_23 rfl (lv_at hl 0 rfl) ?_
        obtain ⟨h5, hf⟩ := o_cs hf
        refine b_iald hx hb hW 1 5 rfl vW_5 h5 dX0_inBook_24 ?_
        refine lv_iconst (v := (-1)) hx hb dX0_inBook_25 (by decide) ?_
        refine lv_icmp_eq (tgt := 35) hx hb dX0_inBook_26 (by decide) (fun c6 => ?_) (fun c6 => ?_)
        · have hf := o_t hf c6
          refine lv_iconst (v := 0) hx hb dX0_inBook_35 (by decide) ?_
          refine lv_ior hx hb dX0_inBook_36 ?_
          obtain ⟨v7, ev7, hf⟩ := o_ls hf
          refine b_topi ev7 ?_
          refine lv_istore_n (lv' := [(1, .int v7), (2, .int v3), (0, .ref (adX 0))]) hx hb dX0_inBook_37 rfl hl (by decide) rfl (fun ls hl => ?_)
          obtain ⟨v8, ev8, hf⟩ := o_ls hf
          refine lv_iinc (v := v8) (lv' := [(2, .int v8), (1, .int v7), (0, .ref (adX 0))]) hx hb dX0_inBook_38 hl (k := 1) rfl ev8 (by decide) rfl (fun ls hl => ?_)
          refine lv_goto (tgt := 4) hx hb dX0_inBook_41 (by decide) ?_
          exact ih1 _ _ _ _ _ hW (lv_sub hl [0, 1, 2] rfl) hf
        · have hf := o_f hf c6
          refine lv_iconst (v := 1) hx hb dX0_inBook_29 (by decide) ?_
          refine lv_iload_n hx hb dX0_inBook_30 rfl (lv_at hl 0 rfl) ?_
          refine lv_ishl hx hb dX0_inBook_31 ?_
          refine lv_goto (tgt := 36) hx hb dX0_inBook_32 (by decide) ?_
          refine lv_ior hx hb dX0_inBook_36 ?_
          obtain ⟨v9, ev9, hf⟩ := o_ls hf
          refine b_topi ev9 ?_
          refine lv_istore_n (lv' := [(1, .int v9), (2, .int v3), (0, .ref (adX 0))]) hx hb dX0_inBook_37 rfl hl (by decide) rfl (fun ls hl => ?_)
          obtain ⟨v10, ev10, hf⟩ := o_ls hf
          refine lv_iinc (v := v10) (lv' := [(2, .int v10), (1, .int v9), (0, .ref (adX 0))]) hx hb dX0_inBook_38 hl (k := 1) rfl ev10 (by decide) rfl (fun ls hl => ?_)
          refine lv_goto (tgt := 4) hx hb dX0_inBook_41 (by decide) ?_
          exact ih1 _ _ _ _ _ hW (lv_sub hl [0, 1, 2] rfl) hf
  exact L1 _ _ _ _ _ _ hW (lv_sub hl [0, 1, 2] rfl) hf
