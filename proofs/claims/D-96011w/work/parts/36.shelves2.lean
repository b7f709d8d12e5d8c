/-! THE SHELVES, methods that do not throw: printed by gen/all.py -/
set_option maxRecDepth 100000
def f_X0_holds (X : BC) (L : List Nat) (kd : Nat → Nat) (nu : Nat → Int32) (aa : Nat → Int32) (LR : List Nat) (so : Nat → Nat) (rn : Nat → Nat) (ri : Nat → Nat → Int32) (rl : Nat → Nat → Int64) (x1 : Int32) : Option Int32 :=
 o_b1 (f_X0_isShelf x1) fun (r1 : Int32) =>
 (if r1 = 0 then
 some (-1)
 else
 o_ck (inB x1 8) (o_op (X.2.1 1 (ix x1)) (some (-1)) fun (z4 : Nat) =>
 o_op (X.2.1 1 (ix x1)) (none) fun (z5 : Nat) =>
 (if z5 ∈ LR then
 some (rS (so z5))
 else
 o_ck (gIn L kd z5) (some (10 + (nu z5))))))
abbrev rm_X0_holds : Room := { frames := 2, cells := 0, slots := 0, locals := 42 }
set_option maxHeartbeats 4000000 in
set_option maxRecDepth 100000 in
theorem m_X0_holds (l : Launch) (D : va_G) (g : Nat → ClassId) (sz : Nat) (adX : Nat → Nat) (iX : Option Nat) (adN : Nat → Nat) (adT : Nat → Nat) (X : BC) (L : List Nat) (kd : Nat → Nat) (nu : Nat → Int32) (aa : Nat → Int32) (LR : List Nat) (so : Nat → Nat) (rn : Nat → Nat) (ri : Nat → Nat → Int32) (rl : Nat → Nat → Int64) (x1 : Int32) (rO : Int32) (hf : f_X0_holds X L kd nu aa LR so rn ri rl x1 = some rO) : bMet (S := Unit) l yX0_holds (ws_ yX0_holds cX0_holds 3 (some .int)) rm_X0_holds D g sz [.ref (adX 0), .int x1] [xW g adX (adN 0) (adT 0) iX X, gW L kd nu aa, pW g LR so rn ri rl] (fun _ => True) (fun _ => some (.int rO)) (fun _ => [xW g adX (adN 0) (adT 0) iX X, gW L kd nu aa, pW g LR so rn ri rl]) := by
  refine b_met (by decide) (Nat.le_of_ble_eq_true rfl) ?_
  intro p e s m args below meth c A Q ls hx hb hml hr hlk hown hname hts hE hl hW
  revert hW; generalize s.heap = H; intro hW
  have hl : lv_has ls 3 [(0, .ref (adX 0)), (1, .int x1)] := hl
  rw [f_X0_holds] at hf
  refine lv_iload_n hx hb dX0_holds_0 rfl (lv_at hl 1 rfl) ?_
  obtain ⟨r1, hc1, hf⟩ := o_b1s hf
  have hp1 : List.Perm [xW g adX (adN 0) (adT 0) iX X, gW L kd nu aa, pW g LR so rn ri rl] ([] ++ [xW g adX (adN 0) (adT 0) iX X, gW L kd nu aa, pW g LR so rn ri rl]) := b_perm [] [0, 1, 2] 3 rfl rfl rfl rfl
  refine b_call0 ⟨rfl, rfl⟩ (va_runS (As := [.int x1]) (rest := []) ⟨hx, hb, hml, hown, hts⟩ (m_X0_isShelf l D g H.size x1 r1 hc1) (va_cwS 1 hts (lw_S q341 q342 q76 q343) rfl rfl rfl (by decide +kernel) ⟨Nat.le_of_ble_eq_true rfl, Nat.le_of_ble_eq_true rfl⟩) (b_preS hW hp1) rfl rfl hl.1 rfl (lv_room (Nat.le_of_ble_eq_true rfl)) dX0_holds_1 ⟨Nat.le_of_ble_eq_true rfl, Nat.le_of_ble_eq_true rfl⟩) hW hp1 (fun _ _ H locs hW => ?_)
  have hW : bW D g A s H locs [xW g adX (adN 0) (adT 0) iX X, gW L kd nu aa, pW g LR so rn ri rl] := hW
  refine lv_if_eq (tgt := 19) hx hb dX0_holds_4 (by decide) (fun c2 => ?_) (fun c2 => ?_)
  · have hf := o_t hf c2
    refine lv_iconst (v := (-1)) hx hb dX0_holds_19 (by decide) ?_
    cases hf
    exact b_iret hx hb hr hlk hE hW () rfl trivial rfl dX0_holds_20
  · have hf := o_f hf c2
    refine lv_aload_n hx hb dX0_holds_7 rfl (lv_at hl 0 rfl) ?_
    refine b_get hx hb hts in_X0 hown hW 0 0 0 3 rfl xW_0 rfl (by decide) ⟨rfl, rfl, rfl⟩ (hts _ q230) xW_g3 dX0_holds_8 ?_
    refine lv_iload_n hx hb dX0_holds_11 rfl (lv_at hl 1 rfl) ?_
    obtain ⟨h3, hf⟩ := o_cs hf
    refine b_aald hx hb hW 0 1 6 rfl xW_1 rfl h3 dX0_holds_12 ?_
    refine W.eq (g2 := F0 m 13 ls [.ref (adX (2 + ix x1))]) rfl ?_
    refine b_get hx hb hts in_X2 hown hW 0 (2 + ix x1) 2 0 rfl (xW_r2 (inB_lt h3)) rfl (by decide) ⟨rfl, rfl, rfl⟩ (hts _ q222) rfl dX0_holds_13 ?_
    refine b_split (fun hrf => ?_) (fun z4 hrf => ?_)
    · have hf := o_opn hf hrf
      refine lv_ifnonnullN hx hb dX0_holds_16 ?_
      refine lv_iconst (v := (-1)) hx hb dX0_holds_19 (by decide) ?_
      cases hf
      exact b_iret hx hb hr hlk hE hW () rfl trivial rfl dX0_holds_20
    · have hf := o_ops hf hrf
      refine lv_ifnonnull (tgt := 21) hx hb dX0_holds_16 (by decide) ?_
      refine lv_aload_n hx hb dX0_holds_21 rfl (lv_at hl 0 rfl) ?_
      refine b_get hx hb hts in_X0 hown hW 0 0 0 3 rfl xW_0 rfl (by decide) ⟨rfl, rfl, rfl⟩ (hts _ q230) xW_g3 dX0_holds_22 ?_
      refine lv_iload_n hx hb dX0_holds_25 rfl (lv_at hl 1 rfl) ?_
      refine b_aald hx hb hW 0 1 6 rfl xW_1 rfl h3 dX0_holds_26 ?_
      refine W.eq (g2 := F0 m 27 ls [.ref (adX (2 + ix x1))]) rfl ?_
      refine b_get hx hb hts in_X2 hown hW 0 (2 + ix x1) 2 0 rfl (xW_r2 (inB_lt h3)) rfl (by decide) ⟨rfl, rfl, rfl⟩ (hts _ q222) rfl dX0_holds_27 ?_
      refine b_split (fun hrf => ?_) (fun z5 hrf => ?_)
      · have hf := o_opn hf hrf
        cases hf
      · have hf := o_ops hf hrf
        refine lv_astore_n (lv' := [(2, .ref z5), (0, .ref (adX 0)), (1, .int x1)]) hx hb dX0_holds_30 rfl hl (by decide) rfl (fun ls hl => ?_)
        refine lv_aload_n hx hb dX0_holds_31 rfl (lv_at hl 0 rfl) ?_
        by_cases hz6 : z5 ∈ LR
        · have hf := o_t hf hz6
          refine b_rinN hx hb hown hW 2 rfl hz6 rfl (hts _ q385) (r_noG hW.2.2.2.2.2 _) dX0_holds_32 ?_
          refine lv_if_eq (tgt := 51) hx hb dX0_holds_35 (by decide) (fun hc => ?_) (fun hc => absurd hc (by decide))
          refine lv_aload_n hx hb dX0_holds_51 rfl (lv_at hl 0 rfl) ?_
          have hp7 : List.Perm ([xW g adX (adN 0) (adT 0) iX X, gW L kd nu aa, pW g LR so rn ri rl] : List va_W) ([pW g LR so rn ri rl] ++ [xW g adX (adN 0) (adT 0) iX X, gW L kd nu aa]) := b_perm [2] [0, 1] 3 rfl rfl rfl rfl
          refine b_call0 ⟨rfl, rfl⟩ (va_runS (As := [.ref z5]) (rest := []) ⟨hx, hb, hml, hown, hts⟩ (m_X0_sortOf l D g H.size LR so rn ri rl z5 hz6) (va_cwS 1 hts (lw_S q415 q416 q76 q417) rfl rfl rfl (by decide +kernel) ⟨Nat.le_of_ble_eq_true rfl, Nat.le_of_ble_eq_true rfl⟩) (b_preS hW hp7) rfl rfl hl.1 rfl (lv_room (Nat.le_of_ble_eq_true rfl)) dX0_holds_52 ⟨Nat.le_of_ble_eq_true rfl, Nat.le_of_ble_eq_true rfl⟩) hW hp7 (fun _ _ H locs hW => ?_)
          have hW : bW D g A s H locs [pW g LR so rn ri rl, xW g adX (adN 0) (adT 0) iX X, gW L kd nu aa] := hW
          cases hf
          exact b_iret hx hb hr hlk hE (b_perms hW (b_ord [1, 2, 0] 3 rfl rfl rfl)) () rfl trivial rfl dX0_holds_55
        · have hf := o_f hf hz6
          obtain ⟨h8, hf⟩ := o_cs hf
          refine b_instG hx hb hown (hts _ q385) hW 1 rfl h8 (fun _ => true) g_tbG dX0_holds_32 ?_
          refine b_topi (y := 1) rfl ?_
          refine lv_if_eq (tgt := 51) hx hb dX0_holds_35 (by decide) (fun hc => absurd hc (by decide)) (fun hc => ?_)
          refine lv_bipush (v := 10) hx hb dX0_holds_38 (by decide) ?_
          refine lv_aload_n hx hb dX0_holds_40 rfl (lv_at hl 0 rfl) ?_
          refine b_castG hx hb hown (hts _ q385) hW 1 rfl h8 (fun _ => true) g_tbG rfl dX0_holds_41 ?_
          refine b_getNu hx hb hts hown hW 1 rfl h8 (hts _ q616) (fun _ h => h) dX0_holds_44 ?_
          refine lv_iadd hx hb dX0_holds_47 ?_
          refine lv_goto (tgt := 55) hx hb dX0_holds_48 (by decide) ?_
          cases hf
          exact b_iret hx hb hr hlk hE hW () rfl trivial rfl dX0_holds_55
def f_X0_show (X : BC) (N : BC) (L : List Nat) (kd : Nat → Nat) (nu : Nat → Int32) (aa : Nat → Int32) (x1 : Int32) (x2 : Int32) : Option (Int32 × BC) :=
 o_b1 (f_X0_isShelf x1) fun (r1 : Int32) =>
 (if r1 = 0 then
 o_b2 (f_X0_no X (-2)) fun (r3 : Int32) (X4 : BC) =>
 some (r3, X4)
 else
 (if x2 = (-1) then
 o_ck (inB x1 8) ((if x2 = (-1) then
 o_lt (bR X 1 (va_up (X.2.1 1) (ix x1) none)) fun (X12 : BC) =>
 some (1, X12)
 else
 o_ck (inB x2 6) (o_op (N.2.1 8 (ix x2)) none fun (a9 : Nat) => o_ck (gIn L kd a9) (o_lt (bR X 1 (va_up (X.2.1 1) (ix x1) (some a9))) fun (X11 : BC) =>
 some (1, X11)))))
 else
 o_b1 (f_X0_isGoer X N x2) fun (r13 : Int32) =>
 (if r13 = 0 then
 o_b2 (f_X0_no X (-2)) fun (r22 : Int32) (X23 : BC) =>
 some (r22, X23)
 else
 o_ck (inB x1 8) ((if x2 = (-1) then
 o_lt (bR X 1 (va_up (X.2.1 1) (ix x1) none)) fun (X21 : BC) =>
 some (1, X21)
 else
 o_ck (inB x2 6) (o_op (N.2.1 8 (ix x2)) none fun (a18 : Nat) => o_ck (gIn L kd a18) (o_lt (bR X 1 (va_up (X.2.1 1) (ix x1) (some a18))) fun (X20 : BC) =>
 some (1, X20))))))))
abbrev rm_X0_show : Room := { frames := 2, cells := 0, slots := 0, locals := 43 }
set_option maxHeartbeats 4000000 in
set_option maxRecDepth 100000 in
theorem m_X0_show (l : Launch) (D : va_G) (g : Nat → ClassId) (sz : Nat) (adX : Nat → Nat) (iX : Option Nat) (adN : Nat → Nat) (adT : Nat → Nat) (X : BC) (N : BC) (L : List Nat) (kd : Nat → Nat) (nu : Nat → Int32) (aa : Nat → Int32) (x1 : Int32) (x2 : Int32) (rO : Int32) (XO : BC) (hf : f_X0_show X N L kd nu aa x1 x2 = some (rO, XO)) : bMet (S := Unit) l yX0_show (ws_ yX0_show cX0_show 3 (some .int)) rm_X0_show D g sz [.ref (adX 0), .int x1, .int x2] [xW g adX (adN 0) (adT 0) iX X, vW g adN N, gW L kd nu aa] (fun _ => True) (fun _ => some (.int rO)) (fun _ => [xW g adX (adN 0) (adT 0) iX XO, vW g adN N, gW L kd nu aa]) := by
  refine b_met (by decide) (Nat.le_of_ble_eq_true rfl) ?_
  intro p e s m args below meth c A Q ls hx hb hml hr hlk hown hname hts hE hl hW
  revert hW; generalize s.heap = H; intro hW
  have hl : lv_has ls 3 [(0, .ref (adX 0)), (1, .int x1), (2, .int x2)] := hl
  rw [f_X0_show] at hf
  refine lv_iload_n hx hb dX0_show_0 rfl (lv_at hl 1 rfl) ?_
  obtain ⟨r1, hc1, hf⟩ := o_b1s hf
  have hp1 : List.Perm [xW g adX (adN 0) (adT 0) iX X, vW g adN N, gW L kd nu aa] ([] ++ [xW g adX (adN 0) (adT 0) iX X, vW g adN N, gW L kd nu aa]) := b_perm [] [0, 1, 2] 3 rfl rfl rfl rfl
  refine b_call0 ⟨rfl, rfl⟩ (va_runS (As := [.int x1]) (rest := []) ⟨hx, hb, hml, hown, hts⟩ (m_X0_isShelf l D g H.size x1 r1 hc1) (va_cwS 1 hts (lw_S q341 q342 q76 q343) rfl rfl rfl (by decide +kernel) ⟨Nat.le_of_ble_eq_true rfl, Nat.le_of_ble_eq_true rfl⟩) (b_preS hW hp1) rfl rfl hl.1 rfl (lv_room (Nat.le_of_ble_eq_true rfl)) dX0_show_1 ⟨Nat.le_of_ble_eq_true rfl, Nat.le_of_ble_eq_true rfl⟩) hW hp1 (fun _ _ H locs hW => ?_)
  have hW : bW D g A s H locs [xW g adX (adN 0) (adT 0) iX X, vW g adN N, gW L kd nu aa] := hW
  refine lv_if_eq (tgt := 20) hx hb dX0_show_4 (by decide) (fun c2 => ?_) (fun c2 => ?_)
  · have hf := o_t hf c2
    refine lv_aload_n hx hb dX0_show_20 rfl (lv_at hl 0 rfl) ?_
    refine lv_bipush (v := (-2)) hx hb dX0_show_21 (by decide) ?_
    obtain ⟨r3, X4, hc4, hf⟩ := o_b2s hf
    have hp4 : List.Perm [xW g adX (adN 0) (adT 0) iX X, vW g adN N, gW L kd nu aa] ([xW g adX (adN 0) (adT 0) iX X] ++ [vW g adN N, gW L kd nu aa]) := b_perm [0] [1, 2] 3 rfl rfl rfl rfl
    refine b_call0 ⟨rfl, rfl⟩ (va_runV (As := [.int (-2)]) (rest := []) ⟨hx, hb, hml, hown, hts⟩ (m_X0_no l D g H.size adX iX adN adT X (-2) r3 X4 hc4) (cwV 1 hts (lw_V q347 q349 qs2 q76 q350) rfl rfl rfl (by decide +kernel) ⟨Nat.le_of_ble_eq_true rfl, Nat.le_of_ble_eq_true rfl⟩) (b_preV (pp := 0) (q := 0) hW hp4 rfl xW_0 rfl) rfl rfl hl.1 rfl (lv_room (Nat.le_of_ble_eq_true rfl)) dX0_show_23 ⟨Nat.le_of_ble_eq_true rfl, Nat.le_of_ble_eq_true rfl⟩) hW hp4 (fun _ _ H locs hW => ?_)
    have hW : bW D g A s H locs [xW g adX (adN 0) (adT 0) iX X4, vW g adN N, gW L kd nu aa] := hW
    cases hf
    exact b_iret hx hb hr hlk hE hW () rfl trivial rfl dX0_show_26
  · have hf := o_f hf c2
    refine lv_iload_n hx hb dX0_show_7 rfl (lv_at hl 2 rfl) ?_
    refine lv_iconst (v := (-1)) hx hb dX0_show_8 (by decide) ?_
    refine lv_icmp_eq (tgt := 27) hx hb dX0_show_9 (by decide) (fun c5 => ?_) (fun c5 => ?_)
    · have hf := o_t hf c5
      refine lv_aload_n hx hb dX0_show_27 rfl (lv_at hl 0 rfl) ?_
      refine b_get hx hb hts in_X0 hown hW 0 0 0 3 rfl xW_0 rfl (by decide) ⟨rfl, rfl, rfl⟩ (hts _ q230) xW_g3 dX0_show_28 ?_
      refine lv_iload_n hx hb dX0_show_31 rfl (lv_at hl 1 rfl) ?_
      obtain ⟨h6, hf⟩ := o_cs hf
      refine b_aald hx hb hW 0 1 6 rfl xW_1 rfl h6 dX0_show_32 ?_
      refine W.eq (g2 := F0 m 33 ls [.ref (adX (2 + ix x1))]) rfl ?_
      refine lv_iload_n hx hb dX0_show_33 rfl (lv_at hl 2 rfl) ?_
      refine lv_iconst (v := (-1)) hx hb dX0_show_34 (by decide) ?_
      refine lv_icmp_ne (tgt := 42) hx hb dX0_show_35 (by decide) (fun c7 => ?_) (fun c7 => ?_)
      · have hf := o_f hf c7
        refine lv_aload_n hx hb dX0_show_42 rfl (lv_at hl 0 rfl) ?_
        refine b_get hx hb hts in_X0 hown hW 0 0 0 0 rfl xW_0 rfl (by decide) ⟨rfl, rfl, rfl⟩ (hts _ q227) xW_g0 dX0_show_43 ?_
        refine b_get hx hb hts in_X1 hown hW 1 0 1 7 rfl vW_0 rfl (by decide) ⟨rfl, rfl, rfl⟩ (hts _ q154) vW_g7 dX0_show_46 ?_
        refine lv_iload_n hx hb dX0_show_49 rfl (lv_at hl 2 rfl) ?_
        obtain ⟨h8, hf⟩ := o_cs hf
        refine b_aald hx hb hW 1 8 5 rfl vW_8 rfl h8 dX0_show_50 ?_
        refine b_split (fun hrf => by cases (o_opn hf hrf)) (fun a9 hrf => ?_)
        have hf := o_ops hf hrf
        obtain ⟨h10, hf⟩ := o_cs hf
        obtain ⟨X11, eX11, hf⟩ := o_ls hf
        refine b_put hx hb hts in_X2 tyX2 tyX2_ok nmX2 hown hW 0 (2 + ix x1) 2 0 (v := .ref a9) rfl (xW_r2 (inB_lt h6)) (xW_rs2 (x := some a9) (inB_lt h6) eX11) rfl rfl (by decide) ⟨rfl, rfl, rfl⟩ (hts _ q222) rfl (ty := .object "java/lang/Object") rfl rfl rfl Nat.zero_lt_one dX0_show_51 (fun H locs hW => ?_)
        have hW : bW D g A s H locs [xW g adX (adN 0) (adT 0) iX X11, vW g adN N, gW L kd nu aa] := hW
        refine lv_iconst (v := 1) hx hb dX0_show_54 (by decide) ?_
        cases hf
        exact b_iret hx hb hr hlk hE hW () rfl trivial rfl dX0_show_55
      · have hf := o_t hf c7
        refine lv_null hx hb dX0_show_38 ?_
        refine lv_goto (tgt := 51) hx hb dX0_show_39 (by decide) ?_
        obtain ⟨X12, eX12, hf⟩ := o_ls hf
        refine b_put hx hb hts in_X2 tyX2 tyX2_ok nmX2 hown hW 0 (2 + ix x1) 2 0 (v := .null) rfl (xW_r2 (inB_lt h6)) (xW_rs2 (x := none) (inB_lt h6) eX12) rfl rfl (by decide) ⟨rfl, rfl, rfl⟩ (hts _ q222) rfl (ty := .object "java/lang/Object") rfl rfl rfl Nat.zero_lt_one dX0_show_51 (fun H locs hW => ?_)
        have hW : bW D g A s H locs [xW g adX (adN 0) (adT 0) iX X12, vW g adN N, gW L kd nu aa] := hW
        refine lv_iconst (v := 1) hx hb dX0_show_54 (by decide) ?_
        cases hf
        exact b_iret hx hb hr hlk hE hW () rfl trivial rfl dX0_show_55
    · have hf := o_f hf c5
      refine lv_aload_n hx hb dX0_show_12 rfl (lv_at hl 0 rfl) ?_
      refine lv_iload_n hx hb dX0_show_13 rfl (lv_at hl 2 rfl) ?_
      obtain ⟨r13, hc13, hf⟩ := o_b1s hf
      have hp13 : List.Perm [xW g adX (adN 0) (adT 0) iX X, vW g adN N, gW L kd nu aa] ([xW g adX (adN 0) (adT 0) iX X, vW g adN N] ++ [gW L kd nu aa]) := b_perm [0, 1] [2] 3 rfl rfl rfl rfl
      refine b_call0 ⟨rfl, rfl⟩ (va_runV (As := [.int x2]) (rest := []) ⟨hx, hb, hml, hown, hts⟩ (m_X0_isGoer l D g H.size adX iX adN adT X N x2 r13 hc13) (cwV 1 hts (lw_V q485 q487 qs4 q76 q488) rfl rfl rfl (by decide +kernel) ⟨Nat.le_of_ble_eq_true rfl, Nat.le_of_ble_eq_true rfl⟩) (b_preV (pp := 0) (q := 0) hW hp13 rfl xW_0 rfl) rfl rfl hl.1 rfl (lv_room (Nat.le_of_ble_eq_true rfl)) dX0_show_14 ⟨Nat.le_of_ble_eq_true rfl, Nat.le_of_ble_eq_true rfl⟩) hW hp13 (fun _ _ H locs hW => ?_)
      have hW : bW D g A s H locs [xW g adX (adN 0) (adT 0) iX X, vW g adN N, gW L kd nu aa] := hW
      refine lv_if_ne (tgt := 27) hx hb dX0_show_17 (by decide) (fun c14 => ?_) (fun c14 => ?_)
      · have hf := o_f hf c14
        refine lv_aload_n hx hb dX0_show_27 rfl (lv_at hl 0 rfl) ?_
        refine b_get hx hb hts in_X0 hown hW 0 0 0 3 rfl xW_0 rfl (by decide) ⟨rfl, rfl, rfl⟩ (hts _ q230) xW_g3 dX0_show_28 ?_
        refine lv_iload_n hx hb dX0_show_31 rfl (lv_at hl 1 rfl) ?_
        obtain ⟨h15, hf⟩ := o_cs hf
        refine b_aald hx hb hW 0 1 6 rfl xW_1 rfl h15 dX0_show_32 ?_
        refine W.eq (g2 := F0 m 33 ls [.ref (adX (2 + ix x1))]) rfl ?_
        refine lv_iload_n hx hb dX0_show_33 rfl (lv_at hl 2 rfl) ?_
        refine lv_iconst (v := (-1)) hx hb dX0_show_34 (by decide) ?_
        refine lv_icmp_ne (tgt := 42) hx hb dX0_show_35 (by decide) (fun c16 => ?_) (fun c16 => ?_)
        · have hf := o_f hf c16
          refine lv_aload_n hx hb dX0_show_42 rfl (lv_at hl 0 rfl) ?_
          refine b_get hx hb hts in_X0 hown hW 0 0 0 0 rfl xW_0 rfl (by decide) ⟨rfl, rfl, rfl⟩ (hts _ q227) xW_g0 dX0_show_43 ?_
          refine b_get hx hb hts in_X1 hown hW 1 0 1 7 rfl vW_0 rfl (by decide) ⟨rfl, rfl, rfl⟩ (hts _ q154) vW_g7 dX0_show_46 ?_
          refine lv_iload_n hx hb dX0_show_49 rfl (lv_at hl 2 rfl) ?_
          obtain ⟨h17, hf⟩ := o_cs hf
          refine b_aald hx hb hW 1 8 5 rfl vW_8 rfl h17 dX0_show_50 ?_
          refine b_split (fun hrf => by cases (o_opn hf hrf)) (fun a18 hrf => ?_)
          have hf := o_ops hf hrf
          obtain ⟨h19, hf⟩ := o_cs hf
          obtain ⟨X20, eX20, hf⟩ := o_ls hf
          refine b_put hx hb hts in_X2 tyX2 tyX2_ok nmX2 hown hW 0 (2 + ix x1) 2 0 (v := .ref a18) rfl (xW_r2 (inB_lt h15)) (xW_rs2 (x := some a18) (inB_lt h15) eX20) rfl rfl (by decide) ⟨rfl, rfl, rfl⟩ (hts _ q222) rfl (ty := .object "java/lang/Object") rfl rfl rfl Nat.zero_lt_one dX0_show_51 (fun H locs hW => ?_)
          have hW : bW D g A s H locs [xW g adX (adN 0) (adT 0) iX X20, vW g adN N, gW L kd nu aa] := hW
          refine lv_iconst (v := 1) hx hb dX0_show_54 (by decide) ?_
          cases hf
          exact b_iret hx hb hr hlk hE hW () rfl trivial rfl dX0_show_55
        · have hf := o_t hf c16
          refine lv_null hx hb dX0_show_38 ?_
          refine lv_goto (tgt := 51) hx hb dX0_show_39 (by decide) ?_
          obtain ⟨X21, eX21, hf⟩ := o_ls hf
          refine b_put hx hb hts in_X2 tyX2 tyX2_ok nmX2 hown hW 0 (2 + ix x1) 2 0 (v := .null) rfl (xW_r2 (inB_lt h15)) (xW_rs2 (x := none) (inB_lt h15) eX21) rfl rfl (by decide) ⟨rfl, rfl, rfl⟩ (hts _ q222) rfl (ty := .object "java/lang/Object") rfl rfl rfl Nat.zero_lt_one dX0_show_51 (fun H locs hW => ?_)
          have hW : bW D g A s H locs [xW g adX (adN 0) (adT 0) iX X21, vW g adN N, gW L kd nu aa] := hW
          refine lv_iconst (v := 1) hx hb dX0_show_54 (by decide) ?_
          cases hf
          exact b_iret hx hb hr hlk hE hW () rfl trivial rfl dX0_show_55
      · have hf := o_t hf c14
        refine lv_aload_n hx hb dX0_show_20 rfl (lv_at hl 0 rfl) ?_
        refine lv_bipush (v := (-2)) hx hb dX0_show_21 (by decide) ?_
        obtain ⟨r22, X23, hc23, hf⟩ := o_b2s hf
        have hp23 : List.Perm [xW g adX (adN 0) (adT 0) iX X, vW g adN N, gW L kd nu aa] ([xW g adX (adN 0) (adT 0) iX X] ++ [vW g adN N, gW L kd nu aa]) := b_perm [0] [1, 2] 3 rfl rfl rfl rfl
        refine b_call0 ⟨rfl, rfl⟩ (va_runV (As := [.int (-2)]) (rest := []) ⟨hx, hb, hml, hown, hts⟩ (m_X0_no l D g H.size adX iX adN adT X (-2) r22 X23 hc23) (cwV 1 hts (lw_V q347 q349 qs2 q76 q350) rfl rfl rfl (by decide +kernel) ⟨Nat.le_of_ble_eq_true rfl, Nat.le_of_ble_eq_true rfl⟩) (b_preV (pp := 0) (q := 0) hW hp23 rfl xW_0 rfl) rfl rfl hl.1 rfl (lv_room (Nat.le_of_ble_eq_true rfl)) dX0_show_23 ⟨Nat.le_of_ble_eq_true rfl, Nat.le_of_ble_eq_true rfl⟩) hW hp23 (fun _ _ H locs hW => ?_)
        have hW : bW D g A s H locs [xW g adX (adN 0) (adT 0) iX X23, vW g adN N, gW L kd nu aa] := hW
        cases hf
        exact b_iret hx hb hr hlk hE hW () rfl trivial rfl dX0_show_26
def f_X0_held_L4 (X : BC) (rec1 : (Int32 × Int32) → Option Int32) : Int32 × Int32 → Option Int32
  | (v2, v3) =>
    (if (8 : Int32) ≤ v3 then
     some v2
     else
     o_ck (inB v3 8) (o_op (X.2.1 1 (ix v3)) (o_lt (v2 + 0) fun (v7 : Int32) =>
     o_lt (v3 + 1) fun (v8 : Int32) =>
     rec1 (v7, v8)) fun (z6 : Nat) =>
     o_lt (v2 + 1) fun (v9 : Int32) =>
     o_lt (v3 + 1) fun (v10 : Int32) =>
     rec1 (v9, v10)))
def f_X0_held (fu : Nat) (X : BC) : Option Int32 :=
 o_lp (f_X0_held_L4 X) fu (0, 0)
abbrev rm_X0_held : Room := { frames := 0, cells := 0, slots := 0, locals := 0 }
set_option maxHeartbeats 4000000 in
set_option maxRecDepth 100000 in
theorem m_X0_held (l : Launch) (D : va_G) (g : Nat → ClassId) (sz : Nat) (adX : Nat → Nat) (iX : Option Nat) (adN : Nat → Nat) (adT : Nat → Nat) (fu : Nat) (X : BC) (rO : Int32) (hf : f_X0_held fu X = some rO) : bMet (S := Unit) l yX0_held (ws_ yX0_held cX0_held 3 (some .int)) rm_X0_held D g sz [.ref (adX 0)] [xW g adX (adN 0) (adT 0) iX X] (fun _ => True) (fun _ => some (.int rO)) (fun _ => [xW g adX (adN 0) (adT 0) iX X]) := by
  refine b_met (by decide) (Nat.le_of_ble_eq_true rfl) ?_
  intro p e s m args below meth c A Q ls hx hb hml hr hlk hown hname hts hE hl hW
  revert hW; generalize s.heap = H; intro hW
  have hl : lv_has ls 3 [(0, .ref (adX 0))] := hl
  rw [f_X0_held] at hf
  refine lv_iconst (v := 0) hx hb dX0_held_0 (by decide) ?_
  refine lv_istore_n (lv' := [(1, .int 0), (0, .ref (adX 0))]) hx hb dX0_held_1 rfl hl (by decide) rfl (fun ls hl => ?_)
  refine lv_iconst (v := 0) hx hb dX0_held_2 (by decide) ?_
  refine lv_istore_n (lv' := [(2, .int 0), (1, .int 0), (0, .ref (adX 0))]) hx hb dX0_held_3 rfl hl (by decide) rfl (fun ls hl => ?_)
  obtain ⟨stp1, est1, hf⟩ := o_ln hf
  have L1 : ∀ (n : Nat) (v2 : Int32) (v3 : Int32) (H : Heap) (locs : List Loc) (ls : Array Slot), bW D g A s H locs [xW g adX (adN 0) (adT 0) iX X] → lv_has ls 3 [(2, .int v3), (1, .int v2), (0, .ref (adX 0))] → o_lp stp1 n (v2, v3) = some rO → W p l e rm_X0_held s m args below meth c H locs 0 0 Q (F0 m 4 ls []) := by
    intro n1
    induction n1 with
    | zero => intro v2 v3 H locs ls hW hl hf; exact (o_lz hf).elim
    | succ n1 ih1 =>
      intro v2 v3 H locs ls hW hl hf
      have hf := o_lu est1 hf
      rw [f_X0_held_L4] at hf
      refine lv_iload_n hx hb dX0_held_4 rfl (lv_at hl 0 rfl) ?_
      refine lv_bipush (v := 8) hx hb dX0_held_5 (by decide) ?_
      refine lv_icmp_ge (tgt := 36) hx hb dX0_held_7 (by decide) (fun c4 => ?_) (fun c4 => ?_)
      · have hf := o_t hf c4
        refine lv_iload_n hx hb dX0_held_36 rfl (lv_at hl 1 rfl) ?_
        cases hf
        exact b_iret hx hb hr hlk hE hW () rfl trivial rfl dX0_held_37
      · have hf := o_f hf c4
        refine lv_iload_n hx hb dX0_held_10 rfl (lv_at hl 1 rfl) ?_
        refine lv_aload_n hx hb dX0_held_11 rfl (lv_at hl 2 rfl) ?_
        refine b_get hx hb hts in_X0 hown hW 0 0 0 3 rfl xW_0 rfl (by decide) ⟨rfl, rfl, rfl⟩ (hts _ q230) xW_g3 dX0_held_12 ?_
        refine lv_iload_n hx hb dX0_held_15 rfl (lv_at hl 0 rfl) ?_
        obtain ⟨h5, hf⟩ := o_cs hf
        refine b_aald hx hb hW 0 1 6 rfl xW_1 rfl h5 dX0_held_16 ?_
        refine W.eq (g2 := F0 m 17 ls [.ref (adX (2 + ix v3)), .int v2]) rfl ?_
        refine b_get hx hb hts in_X2 hown hW 0 (2 + ix v3) 2 0 rfl (xW_r2 (inB_lt h5)) rfl (by decide) ⟨rfl, rfl, rfl⟩ (hts _ q222) rfl dX0_held_17 ?_
        refine b_split (fun hrf => ?_) (fun z6 hrf => ?_)
        · have hf := o_opn hf hrf
          refine lv_ifnullN (tgt := 27) hx hb dX0_held_20 (by decide) ?_
          refine lv_iconst (v := 0) hx hb dX0_held_27 (by decide) ?_
          refine lv_iadd hx hb dX0_held_28 ?_
          obtain ⟨v7, ev7, hf⟩ := o_ls hf
          refine b_topi ev7 ?_
          refine lv_istore_n (lv' := [(1, .int v7), (2, .int v3), (0, .ref (adX 0))]) hx hb dX0_held_29 rfl hl (by decide) rfl (fun ls hl => ?_)
          obtain ⟨v8, ev8, hf⟩ := o_ls hf
          refine lv_iinc (v := v8) (lv' := [(2, .int v8), (1, .int v7), (0, .ref (adX 0))]) hx hb dX0_held_30 hl (k := 1) rfl ev8 (by decide) rfl (fun ls hl => ?_)
          refine lv_goto (tgt := 4) hx hb dX0_held_33 (by decide) ?_
          exact ih1 _ _ _ _ _ hW (lv_sub hl [0, 1, 2] rfl) hf
        · have hf := o_ops hf hrf
          refine lv_ifnull hx hb dX0_held_20 ?_
          refine lv_iconst (v := 1) hx hb dX0_held_23 (by decide) ?_
          refine lv_goto (tgt := 28) hx hb dX0_held_24 (by decide) ?_
          refine lv_iadd hx hb dX0_held_28 ?_
          obtain ⟨v9, ev9, hf⟩ := o_ls hf
          refine b_topi ev9 ?_
          refine lv_istore_n (lv' := [(1, .int v9), (2, .int v3), (0, .ref (adX 0))]) hx hb dX0_held_29 rfl hl (by decide) rfl (fun ls hl => ?_)
          obtain ⟨v10, ev10, hf⟩ := o_ls hf
          refine lv_iinc (v := v10) (lv' := [(2, .int v10), (1, .int v9), (0, .ref (adX 0))]) hx hb dX0_held_30 hl (k := 1) rfl ev10 (by decide) rfl (fun ls hl => ?_)
          refine lv_goto (tgt := 4) hx hb dX0_held_33 (by decide) ?_
          exact ih1 _ _ _ _ _ hW (lv_sub hl [0, 1, 2] rfl) hf
  exact L1 _ _ _ _ _ _ hW (lv_sub hl [0, 1, 2] rfl) hf
def f_X0_status (fu : Nat) (X : BC) (N : BC) (T : BC) (L : List Nat) (kd : Nat → Nat) (nu : Nat → Int32) (aa : Nat → Int32) (x1 : Int32) : Option Int32 :=
 o_b1 (f_X0_isIn x1 12 16) fun (r1 : Int32) =>
 (if r1 = 0 then
 (if x1 = 0 then
 some (N.1 0 0)
 else
 (if x1 = 1 then
 some (N.1 0 1)
 else
 (if x1 = 2 then
 some (N.1 0 2)
 else
 (if x1 = 3 then
 o_b1 (f_X0_inBook fu X N T L kd nu aa) fun (r7 : Int32) =>
 some r7
 else
 (if x1 = 4 then
 o_b1 (f_X0_summed fu (N.1 3) 6 (N.1 0 0)) fun (r9 : Int32) =>
 some r9
 else
 (if x1 = 5 then
 o_b1 (f_X0_summed fu (N.1 9) 6 (N.1 0 1)) fun (r11 : Int32) =>
 some r11
 else
 (if x1 = 6 then
 some (N.1 0 4)
 else
 (if x1 = 7 then
 some (X.1 0 0)
 else
 (if x1 = 8 then
 some (N.1 0 3)
 else
 (if x1 = 9 then
 o_b1 (f_X0_held fu X) fun (r16 : Int32) =>
 some r16
 else
 some (-1)))))))))))
 else
 o_ck (inB (x1 - 10) 7) (some (X.1 11 (ix (x1 - 10)))))
abbrev rm_X0_status : Room := { frames := 1, cells := 0, slots := 0, locals := 23 }
set_option maxHeartbeats 4000000 in
set_option maxRecDepth 100000 in
theorem m_X0_status (l : Launch) (D : va_G) (g : Nat → ClassId) (sz : Nat) (adX : Nat → Nat) (iX : Option Nat) (adN : Nat → Nat) (adT : Nat → Nat) (fu : Nat) (X : BC) (N : BC) (T : BC) (L : List Nat) (kd : Nat → Nat) (nu : Nat → Int32) (aa : Nat → Int32) (x1 : Int32) (rO : Int32) (hf : f_X0_status fu X N T L kd nu aa x1 = some rO) : bMet (S := Unit) l yX0_status (ws_ yX0_status cX0_status 2 (some .int)) rm_X0_status D g sz [.ref (adX 0), .int x1] [xW g adX (adN 0) (adT 0) iX X, vW g adN N, vW g adT T, gW L kd nu aa] (fun _ => True) (fun _ => some (.int rO)) (fun _ => [xW g adX (adN 0) (adT 0) iX X, vW g adN N, vW g adT T, gW L kd nu aa]) := by
  refine b_met (by decide) (Nat.le_of_ble_eq_true rfl) ?_
  intro p e s m args below meth c A Q ls hx hb hml hr hlk hown hname hts hE hl hW
  revert hW; generalize s.heap = H; intro hW
  have hl : lv_has ls 2 [(0, .ref (adX 0)), (1, .int x1)] := hl
  rw [f_X0_status] at hf
  refine lv_iload_n hx hb dX0_status_0 rfl (lv_at hl 1 rfl) ?_
  refine lv_bipush (v := 12) hx hb dX0_status_1 (by decide) ?_
  refine lv_bipush (v := 16) hx hb dX0_status_3 (by decide) ?_
  obtain ⟨r1, hc1, hf⟩ := o_b1s hf
  have hp1 : List.Perm [xW g adX (adN 0) (adT 0) iX X, vW g adN N, vW g adT T, gW L kd nu aa] ([] ++ [xW g adX (adN 0) (adT 0) iX X, vW g adN N, vW g adT T, gW L kd nu aa]) := b_perm [] [0, 1, 2, 3] 4 rfl rfl rfl rfl
  refine b_call0 ⟨rfl, rfl⟩ (va_runS (As := [.int x1, .int 12, .int 16]) (rest := []) ⟨hx, hb, hml, hown, hts⟩ (m_X0_isIn l D g H.size x1 12 16 r1 hc1) (va_cwS 3 hts (lw_S q344 q345 q76 q346) rfl rfl rfl (by decide +kernel) ⟨Nat.le_of_ble_eq_true rfl, Nat.le_of_ble_eq_true rfl⟩) (b_preS hW hp1) rfl rfl hl.1 rfl (lv_room (Nat.le_of_ble_eq_true rfl)) dX0_status_5 ⟨Nat.le_of_ble_eq_true rfl, Nat.le_of_ble_eq_true rfl⟩) hW hp1 (fun _ _ H locs hW => ?_)
  have hW : bW D g A s H locs [xW g adX (adN 0) (adT 0) iX X, vW g adN N, vW g adT T, gW L kd nu aa] := hW
  refine lv_if_eq (tgt := 21) hx hb dX0_status_8 (by decide) (fun c2 => ?_) (fun c2 => ?_)
  · have hf := o_t hf c2
    refine lv_iload_n hx hb dX0_status_21 rfl (lv_at hl 1 rfl) ?_
    by_cases c3 : x1 = 0
    · have hf := o_t hf c3
      refine lv_tableIn (off := 54) (tgt := 76) hx hb dX0_status_22 (by rw [c3]; decide) (by rw [c3]; decide) (by rw [c3]; rfl) (by decide) ?_
      refine lv_aload_n hx hb dX0_status_76 rfl (lv_at hl 0 rfl) ?_
      refine b_get hx hb hts in_X0 hown hW 0 0 0 0 rfl xW_0 rfl (by decide) ⟨rfl, rfl, rfl⟩ (hts _ q227) xW_g0 dX0_status_77 ?_
      refine b_get hx hb hts in_X1 hown hW 1 0 1 12 rfl vW_0 rfl (by decide) ⟨rfl, rfl, rfl⟩ (hts _ q167) vW_g12 dX0_status_80 ?_
      cases hf
      exact b_iret hx hb hr hlk hE hW () rfl trivial rfl dX0_status_83
    · have hf := o_f hf c3
      by_cases c4 : x1 = 1
      · have hf := o_t hf c4
        refine lv_tableIn (off := 62) (tgt := 84) hx hb dX0_status_22 (by rw [c4]; decide) (by rw [c4]; decide) (by rw [c4]; rfl) (by decide) ?_
        refine lv_aload_n hx hb dX0_status_84 rfl (lv_at hl 0 rfl) ?_
        refine b_get hx hb hts in_X0 hown hW 0 0 0 0 rfl xW_0 rfl (by decide) ⟨rfl, rfl, rfl⟩ (hts _ q227) xW_g0 dX0_status_85 ?_
        refine b_get hx hb hts in_X1 hown hW 1 0 1 13 rfl vW_0 rfl (by decide) ⟨rfl, rfl, rfl⟩ (hts _ q170) vW_g13 dX0_status_88 ?_
        cases hf
        exact b_iret hx hb hr hlk hE hW () rfl trivial rfl dX0_status_91
      · have hf := o_f hf c4
        by_cases c5 : x1 = 2
        · have hf := o_t hf c5
          refine lv_tableIn (off := 70) (tgt := 92) hx hb dX0_status_22 (by rw [c5]; decide) (by rw [c5]; decide) (by rw [c5]; rfl) (by decide) ?_
          refine lv_aload_n hx hb dX0_status_92 rfl (lv_at hl 0 rfl) ?_
          refine b_get hx hb hts in_X0 hown hW 0 0 0 0 rfl xW_0 rfl (by decide) ⟨rfl, rfl, rfl⟩ (hts _ q227) xW_g0 dX0_status_93 ?_
          refine b_get hx hb hts in_X1 hown hW 1 0 1 14 rfl vW_0 rfl (by decide) ⟨rfl, rfl, rfl⟩ (hts _ q174) vW_g14 dX0_status_96 ?_
          cases hf
          exact b_iret hx hb hr hlk hE hW () rfl trivial rfl dX0_status_99
        · have hf := o_f hf c5
          by_cases c6 : x1 = 3
          · have hf := o_t hf c6
            refine lv_tableIn (off := 78) (tgt := 100) hx hb dX0_status_22 (by rw [c6]; decide) (by rw [c6]; decide) (by rw [c6]; rfl) (by decide) ?_
            refine lv_aload_n hx hb dX0_status_100 rfl (lv_at hl 0 rfl) ?_
            obtain ⟨r7, hc7, hf⟩ := o_b1s hf
            have hp7 : List.Perm [xW g adX (adN 0) (adT 0) iX X, vW g adN N, vW g adT T, gW L kd nu aa] ([xW g adX (adN 0) (adT 0) iX X, vW g adN N, vW g adT T, gW L kd nu aa] ++ []) := b_perm [0, 1, 2, 3] [] 4 rfl rfl rfl rfl
            refine b_call0 ⟨rfl, rfl⟩ (va_runV (As := []) (rest := []) ⟨hx, hb, hml, hown, hts⟩ (m_X0_inBook l D g H.size adX iX adN adT fu X N T L kd nu aa r7 hc7) (cwV 0 hts (lw_V q1439 q1441 qs31 q76 q1442) rfl rfl rfl (by decide +kernel) ⟨Nat.le_of_ble_eq_true rfl, Nat.le_of_ble_eq_true rfl⟩) (b_preV (pp := 0) (q := 0) hW hp7 rfl xW_0 rfl) rfl rfl hl.1 rfl (lv_room (Nat.le_of_ble_eq_true rfl)) dX0_status_101 ⟨Nat.le_of_ble_eq_true rfl, Nat.le_of_ble_eq_true rfl⟩) hW hp7 (fun _ _ H locs hW => ?_)
            have hW : bW D g A s H locs [xW g adX (adN 0) (adT 0) iX X, vW g adN N, vW g adT T, gW L kd nu aa] := hW
            cases hf
            exact b_iret hx hb hr hlk hE hW () rfl trivial rfl dX0_status_104
          · have hf := o_f hf c6
            by_cases c8 : x1 = 4
            · have hf := o_t hf c8
              refine lv_tableIn (off := 83) (tgt := 105) hx hb dX0_status_22 (by rw [c8]; decide) (by rw [c8]; decide) (by rw [c8]; rfl) (by decide) ?_
              refine lv_aload_n hx hb dX0_status_105 rfl (lv_at hl 0 rfl) ?_
              refine b_get hx hb hts in_X0 hown hW 0 0 0 0 rfl xW_0 rfl (by decide) ⟨rfl, rfl, rfl⟩ (hts _ q227) xW_g0 dX0_status_106 ?_
              refine b_get hx hb hts in_X1 hown hW 1 0 1 2 rfl vW_0 rfl (by decide) ⟨rfl, rfl, rfl⟩ (hts _ q135) vW_g2 dX0_status_109 ?_
              refine lv_aload_n hx hb dX0_status_112 rfl (lv_at hl 0 rfl) ?_
              refine b_get hx hb hts in_X0 hown hW 0 0 0 0 rfl xW_0 rfl (by decide) ⟨rfl, rfl, rfl⟩ (hts _ q227) xW_g0 dX0_status_113 ?_
              refine b_get hx hb hts in_X1 hown hW 1 0 1 12 rfl vW_0 rfl (by decide) ⟨rfl, rfl, rfl⟩ (hts _ q167) vW_g12 dX0_status_116 ?_
              obtain ⟨r9, hc9, hf⟩ := o_b1s hf
              have hp9 : List.Perm [xW g adX (adN 0) (adT 0) iX X, vW g adN N, vW g adT T, gW L kd nu aa] ([vW g adN N] ++ [xW g adX (adN 0) (adT 0) iX X, vW g adT T, gW L kd nu aa]) := b_perm [1] [0, 2, 3] 4 rfl rfl rfl rfl
              refine b_call0 ⟨rfl, rfl⟩ (va_runS (As := [.ref (adN 3), .int (N.1 0 0)]) (rest := []) ⟨hx, hb, hml, hown, hts⟩ (m_X0_summed l D g H.size _ 3 _ fu (N.1 3) 6 (N.1 0 0) r9 vW_3 hc9) (va_cwS 2 hts (lw_S q1443 q1444 q76 q1445) rfl rfl rfl (by decide +kernel) ⟨Nat.le_of_ble_eq_true rfl, Nat.le_of_ble_eq_true rfl⟩) (b_preS hW hp9) rfl rfl hl.1 rfl (lv_room (Nat.le_of_ble_eq_true rfl)) dX0_status_119 ⟨Nat.le_of_ble_eq_true rfl, Nat.le_of_ble_eq_true rfl⟩) hW hp9 (fun _ _ H locs hW => ?_)
              have hW : bW D g A s H locs [vW g adN N, xW g adX (adN 0) (adT 0) iX X, vW g adT T, gW L kd nu aa] := hW
              cases hf
              exact b_iret hx hb hr hlk hE (b_perms hW (b_ord [1, 0, 2, 3] 4 rfl rfl rfl)) () rfl trivial rfl dX0_status_122
            · have hf := o_f hf c8
              by_cases c10 : x1 = 5
              · have hf := o_t hf c10
                refine lv_tableIn (off := 101) (tgt := 123) hx hb dX0_status_22 (by rw [c10]; decide) (by rw [c10]; decide) (by rw [c10]; rfl) (by decide) ?_
                refine lv_aload_n hx hb dX0_status_123 rfl (lv_at hl 0 rfl) ?_
                refine b_get hx hb hts in_X0 hown hW 0 0 0 0 rfl xW_0 rfl (by decide) ⟨rfl, rfl, rfl⟩ (hts _ q227) xW_g0 dX0_status_124 ?_
                refine b_get hx hb hts in_X1 hown hW 1 0 1 8 rfl vW_0 rfl (by decide) ⟨rfl, rfl, rfl⟩ (hts _ q156) vW_g8 dX0_status_127 ?_
                refine lv_aload_n hx hb dX0_status_130 rfl (lv_at hl 0 rfl) ?_
                refine b_get hx hb hts in_X0 hown hW 0 0 0 0 rfl xW_0 rfl (by decide) ⟨rfl, rfl, rfl⟩ (hts _ q227) xW_g0 dX0_status_131 ?_
                refine b_get hx hb hts in_X1 hown hW 1 0 1 13 rfl vW_0 rfl (by decide) ⟨rfl, rfl, rfl⟩ (hts _ q170) vW_g13 dX0_status_134 ?_
                obtain ⟨r11, hc11, hf⟩ := o_b1s hf
                have hp11 : List.Perm [xW g adX (adN 0) (adT 0) iX X, vW g adN N, vW g adT T, gW L kd nu aa] ([vW g adN N] ++ [xW g adX (adN 0) (adT 0) iX X, vW g adT T, gW L kd nu aa]) := b_perm [1] [0, 2, 3] 4 rfl rfl rfl rfl
                refine b_call0 ⟨rfl, rfl⟩ (va_runS (As := [.ref (adN 9), .int (N.1 0 1)]) (rest := []) ⟨hx, hb, hml, hown, hts⟩ (m_X0_summed l D g H.size _ 9 _ fu (N.1 9) 6 (N.1 0 1) r11 vW_9 hc11) (va_cwS 2 hts (lw_S q1443 q1444 q76 q1445) rfl rfl rfl (by decide +kernel) ⟨Nat.le_of_ble_eq_true rfl, Nat.le_of_ble_eq_true rfl⟩) (b_preS hW hp11) rfl rfl hl.1 rfl (lv_room (Nat.le_of_ble_eq_true rfl)) dX0_status_137 ⟨Nat.le_of_ble_eq_true rfl, Nat.le_of_ble_eq_true rfl⟩) hW hp11 (fun _ _ H locs hW => ?_)
                have hW : bW D g A s H locs [vW g adN N, xW g adX (adN 0) (adT 0) iX X, vW g adT T, gW L kd nu aa] := hW
                cases hf
                exact b_iret hx hb hr hlk hE (b_perms hW (b_ord [1, 0, 2, 3] 4 rfl rfl rfl)) () rfl trivial rfl dX0_status_140
              · have hf := o_f hf c10
                by_cases c12 : x1 = 6
                · have hf := o_t hf c12
                  refine lv_tableIn (off := 119) (tgt := 141) hx hb dX0_status_22 (by rw [c12]; decide) (by rw [c12]; decide) (by rw [c12]; rfl) (by decide) ?_
                  refine lv_aload_n hx hb dX0_status_141 rfl (lv_at hl 0 rfl) ?_
                  refine b_get hx hb hts in_X0 hown hW 0 0 0 0 rfl xW_0 rfl (by decide) ⟨rfl, rfl, rfl⟩ (hts _ q227) xW_g0 dX0_status_142 ?_
                  refine b_get hx hb hts in_X1 hown hW 1 0 1 16 rfl vW_0 rfl (by decide) ⟨rfl, rfl, rfl⟩ (hts _ q178) vW_g16 dX0_status_145 ?_
                  cases hf
                  exact b_iret hx hb hr hlk hE hW () rfl trivial rfl dX0_status_148
                · have hf := o_f hf c12
                  by_cases c13 : x1 = 7
                  · have hf := o_t hf c13
                    refine lv_tableIn (off := 127) (tgt := 149) hx hb dX0_status_22 (by rw [c13]; decide) (by rw [c13]; decide) (by rw [c13]; rfl) (by decide) ?_
                    refine lv_aload_n hx hb dX0_status_149 rfl (lv_at hl 0 rfl) ?_
                    refine b_get hx hb hts in_X0 hown hW 0 0 0 5 rfl xW_0 rfl (by decide) ⟨rfl, rfl, rfl⟩ (hts _ q232) xW_g5 dX0_status_150 ?_
                    cases hf
                    exact b_iret hx hb hr hlk hE hW () rfl trivial rfl dX0_status_153
                  · have hf := o_f hf c13
                    by_cases c14 : x1 = 8
                    · have hf := o_t hf c14
                      refine lv_tableIn (off := 132) (tgt := 154) hx hb dX0_status_22 (by rw [c14]; decide) (by rw [c14]; decide) (by rw [c14]; rfl) (by decide) ?_
                      refine lv_aload_n hx hb dX0_status_154 rfl (lv_at hl 0 rfl) ?_
                      refine b_get hx hb hts in_X0 hown hW 0 0 0 0 rfl xW_0 rfl (by decide) ⟨rfl, rfl, rfl⟩ (hts _ q227) xW_g0 dX0_status_155 ?_
                      refine b_get hx hb hts in_X1 hown hW 1 0 1 15 rfl vW_0 rfl (by decide) ⟨rfl, rfl, rfl⟩ (hts _ q176) vW_g15 dX0_status_158 ?_
                      cases hf
                      exact b_iret hx hb hr hlk hE hW () rfl trivial rfl dX0_status_161
                    · have hf := o_f hf c14
                      by_cases c15 : x1 = 9
                      · have hf := o_t hf c15
                        refine lv_tableIn (off := 140) (tgt := 162) hx hb dX0_status_22 (by rw [c15]; decide) (by rw [c15]; decide) (by rw [c15]; rfl) (by decide) ?_
                        refine lv_aload_n hx hb dX0_status_162 rfl (lv_at hl 0 rfl) ?_
                        obtain ⟨r16, hc16, hf⟩ := o_b1s hf
                        have hp16 : List.Perm [xW g adX (adN 0) (adT 0) iX X, vW g adN N, vW g adT T, gW L kd nu aa] ([xW g adX (adN 0) (adT 0) iX X] ++ [vW g adN N, vW g adT T, gW L kd nu aa]) := b_perm [0] [1, 2, 3] 4 rfl rfl rfl rfl
                        refine b_call0 ⟨rfl, rfl⟩ (va_runV (As := []) (rest := []) ⟨hx, hb, hml, hown, hts⟩ (m_X0_held l D g H.size adX iX adN adT fu X r16 hc16) (cwV 0 hts (lw_V q1446 q1448 qs32 q76 q1449) rfl rfl rfl (by decide +kernel) ⟨Nat.le_of_ble_eq_true rfl, Nat.le_of_ble_eq_true rfl⟩) (b_preV (pp := 0) (q := 0) hW hp16 rfl xW_0 rfl) rfl rfl hl.1 rfl (lv_room (Nat.le_of_ble_eq_true rfl)) dX0_status_163 ⟨Nat.le_of_ble_eq_true rfl, Nat.le_of_ble_eq_true rfl⟩) hW hp16 (fun _ _ H locs hW => ?_)
                        have hW : bW D g A s H locs [xW g adX (adN 0) (adT 0) iX X, vW g adN N, vW g adT T, gW L kd nu aa] := hW
                        cases hf
                        exact b_iret hx hb hr hlk hE hW () rfl trivial rfl dX0_status_166
                      · have hf := o_f hf c15
                        refine lv_tableOut (tgt := 167) hx hb dX0_status_22 (by have := lv_neT c3 (a := 0) (by decide); have := lv_neT c4 (a := 1) (by decide); have := lv_neT c5 (a := 2) (by decide); have := lv_neT c6 (a := 3) (by decide); have := lv_neT c8 (a := 4) (by decide); have := lv_neT c10 (a := 5) (by decide); have := lv_neT c12 (a := 6) (by decide); have := lv_neT c13 (a := 7) (by decide); have := lv_neT c14 (a := 8) (by decide); have := lv_neT c15 (a := 9) (by decide); omega) (by decide) ?_
                        refine lv_iconst (v := (-1)) hx hb dX0_status_167 (by decide) ?_
                        cases hf
                        exact b_iret hx hb hr hlk hE hW () rfl trivial rfl dX0_status_168
  · have hf := o_f hf c2
    refine lv_aload_n hx hb dX0_status_11 rfl (lv_at hl 0 rfl) ?_
    refine b_get hx hb hts in_X0 hown hW 0 0 0 6 rfl xW_0 rfl (by decide) ⟨rfl, rfl, rfl⟩ (hts _ q233) xW_g6 dX0_status_12 ?_
    refine lv_iload_n hx hb dX0_status_15 rfl (lv_at hl 1 rfl) ?_
    refine lv_bipush (v := 10) hx hb dX0_status_16 (by decide) ?_
    refine lv_isub hx hb dX0_status_18 ?_
    obtain ⟨h17, hf⟩ := o_cs hf
    refine b_iald hx hb hW 0 11 rfl xW_11 h17 dX0_status_19 ?_
    cases hf
    exact b_iret hx hb hr hlk hE hW () rfl trivial rfl dX0_status_20
def f_X0_wrongIn_L12 (LR : List Nat) (so : Nat → Nat) (rn : Nat → Nat) (ri : Nat → Nat → Int32) (rl : Nat → Nat → Int64) (x1 : Nat) (N1 : BC) (post : Int32 → BC → Prop) (postX : BC → Prop) (rec2 : (Int32 × Int32) → Prop) : Int32 × Int32 → Prop
  | (v3, v4) =>
    (if ((N1.1 0 1) * (N1.1 0 0)) ≤ v4 then
     post v3 N1
     else
     f_X0_elementOf LR so rn ri rl x1 v4 (fun (r7 : Int64) =>
     q_ck (!decide ((N1.1 0 0) = 0)) (q_ck (inB (v4 / (N1.1 0 0)) 6) (q_ck (inB (v4 - v4 / (N1.1 0 0) * (N1.1 0 0)) 6) ((if (lg_cmp r7 ((N1.1 (11 + ix (v4 / (N1.1 0 0))) (ix (v4 - v4 / (N1.1 0 0) * (N1.1 0 0)))).toInt64)) = 0 then
     (if v3 = (-1) then
     q_lt (v4 + 1) fun (v17 : Int32) =>
     rec2 (v3, v17)
     else
     q_lt (v4 + 1) fun (v16 : Int32) =>
     rec2 (v3, v16))
     else
     (if v3 = (-1) then
     q_lt (v4 + 1) fun (v14 : Int32) =>
     rec2 (v4, v14)
     else
     q_lt (v4 + 1) fun (v13 : Int32) =>
     rec2 (v3, v13))))))) (postX N1))
def f_X0_wrongIn (fu : Nat) (X : BC) (N : BC) (L : List Nat) (kd : Nat → Nat) (nu : Nat → Int32) (aa : Nat → Int32) (LR : List Nat) (so : Nat → Nat) (rn : Nat → Nat) (ri : Nat → Nat → Int32) (rl : Nat → Nat → Int64) (x1 : Nat) (post : Int32 → BC → Prop) (postX : BC → Prop) : Prop :=
 q_b1 (f_X1_night fu N L kd nu aa) fun (N1 : BC) =>
 q_lp (f_X0_wrongIn_L12 LR so rn ri rl x1 N1 post postX) fu ((-1), 0)
abbrev rm_X0_wrongIn (fu : Nat) : Room := { frames := 10, cells := fu * 3, slots := fu * 222, locals := 10321 }
set_option maxHeartbeats 4000000 in
set_option maxRecDepth 100000 in
theorem m_X0_wrongIn (l : Launch) (hst : l.stackTraces = false) (D : va_G) (g : Nat → ClassId) (sz : Nat) (adX : Nat → Nat) (iX : Option Nat) (adN : Nat → Nat) (adT : Nat → Nat) (fu : Nat) (X : BC) (N : BC) (L : List Nat) (kd : Nat → Nat) (nu : Nat → Int32) (aa : Nat → Int32) (LR : List Nat) (so : Nat → Nat) (rn : Nat → Nat) (ri : Nat → Nat → Int32) (rl : Nat → Nat → Int64) (x1 : Nat) (post : Int32 → BC → Prop) (postX : BC → Prop) (hx1 : x1 ∈ LR) (hf : f_X0_wrongIn fu X N L kd nu aa LR so rn ri rl x1 post postX) : bxMet (S := Int32 × BC) (SX := BC) l yX0_wrongIn (ws_ yX0_wrongIn cX0_wrongIn 5 (some .int)) (rm_X0_wrongIn fu) D g sz [.ref (adX 0), .ref x1] [xW g adX (adN 0) (adT 0) iX X, vW g adN N, gW L kd nu aa, pW g LR so rn ri rl] (fun u => post u.1 u.2) (fun u => some (.int u.1)) (fun u => [xW g adX (adN 0) (adT 0) iX X, vW g adN (u.2), gW L kd nu aa, pW g LR so rn ri rl]) (fun E _ u => E = "java/lang/ArrayIndexOutOfBoundsException" ∧ postX u) (fun u => [xW g adX (adN 0) (adT 0) iX X, vW g adN u, gW L kd nu aa, pW g LR so rn ri rl]) := by
  refine b_metX (by decide) (Nat.le_of_ble_eq_true rfl) ?_
  intro p e s m args below meth c A Q ls hx hb hml hr hlk hown hname hts hno hE hl hW
  revert hW; generalize s.heap = H; intro hW
  have hl : lv_has ls 5 [(0, .ref (adX 0)), (1, .ref x1)] := hl
  rw [f_X0_wrongIn] at hf
  refine lv_aload_n hx hb dX0_wrongIn_0 rfl (lv_at hl 0 rfl) ?_
  refine b_get hx hb hts in_X0 hown hW 0 0 0 0 rfl xW_0 rfl (by decide) ⟨rfl, rfl, rfl⟩ (hts _ q227) xW_g0 dX0_wrongIn_1 ?_
  obtain ⟨N1, hc1, hf⟩ := q_b1s hf
  have hp1 : List.Perm [xW g adX (adN 0) (adT 0) iX X, vW g adN N, gW L kd nu aa, pW g LR so rn ri rl] ([vW g adN N, gW L kd nu aa] ++ [xW g adX (adN 0) (adT 0) iX X, pW g LR so rn ri rl]) := b_perm [1, 2] [0, 3] 4 rfl rfl rfl rfl
  refine b_call0 ⟨rfl, rfl⟩ (va_runV (As := []) (rest := []) ⟨hx, hb, hml, hown, hts⟩ (m_X1_night l D g H.size adN fu N L kd nu aa N1 hc1) (cwV 0 hts (lw_V q1135 q1136 q1137 q77 q1138) rfl rfl rfl (by decide +kernel) ⟨Nat.le_of_ble_eq_true rfl, Nat.le_of_ble_eq_true rfl⟩) (b_preV (pp := 1) (q := 0) hW hp1 rfl vW_0 rfl) rfl rfl hl.1 rfl (lv_room (Nat.le_of_ble_eq_true rfl)) dX0_wrongIn_4 ⟨(show 0 + 0 ≤ fu * 3 from by omega), (show 0 + 0 ≤ fu * 222 from by omega)⟩) hW hp1 (fun _ _ H locs hW => ?_)
  have hW : bW D g A s H locs [vW g adN N1, gW L kd nu aa, xW g adX (adN 0) (adT 0) iX X, pW g LR so rn ri rl] := hW
  refine lv_pop hx hb dX0_wrongIn_7 rfl ?_
  refine lv_iconst (v := (-1)) hx hb dX0_wrongIn_8 (by decide) ?_
  refine lv_istore_n (lv' := [(2, .int (-1)), (0, .ref (adX 0)), (1, .ref x1)]) hx hb dX0_wrongIn_9 rfl hl (by decide) rfl (fun ls hl => ?_)
  refine lv_iconst (v := 0) hx hb dX0_wrongIn_10 (by decide) ?_
  refine lv_istore_n (lv' := [(3, .int 0), (2, .int (-1)), (0, .ref (adX 0)), (1, .ref x1)]) hx hb dX0_wrongIn_11 rfl hl (by decide) rfl (fun ls hl => ?_)
  obtain ⟨stp2, est2, hf⟩ := q_ln hf
  have L2 : ∀ (n : Nat) (v3 : Int32) (v4 : Int32) (cn2 sn2 : Nat) (hq2 : cn2 + n * 3 ≤ fu * 3 ∧ sn2 + n * 222 ≤ fu * 222) (H : Heap) (locs : List Loc) (ls : Array Slot), bW D g A s H locs [vW g adN N1, gW L kd nu aa, xW g adX (adN 0) (adT 0) iX X, pW g LR so rn ri rl] → lv_has ls 5 [(3, .int v4), (2, .int v3), (0, .ref (adX 0)), (1, .ref x1)] → q_lp stp2 n (v3, v4) → W p l e (rm_X0_wrongIn fu) s m args below meth c H locs cn2 sn2 Q (F0 m 12 ls []) := by
    intro n2
    induction n2 with
    | zero => intro v3 v4 cn2 sn2 hq2 H locs ls hW hl hf; exact (q_lz hf).elim
    | succ n2 ih2 =>
      intro v3 v4 cn2 sn2 hq2 H locs ls hW hl hf
      have hf := q_lu est2 hf
      rw [f_X0_wrongIn_L12] at hf
      refine lv_iload_n hx hb dX0_wrongIn_12 rfl (lv_at hl 0 rfl) ?_
      refine lv_aload_n hx hb dX0_wrongIn_13 rfl (lv_at hl 2 rfl) ?_
      refine b_get hx hb hts in_X0 hown hW 2 0 0 0 rfl xW_0 rfl (by decide) ⟨rfl, rfl, rfl⟩ (hts _ q227) xW_g0 dX0_wrongIn_14 ?_
      refine b_get hx hb hts in_X1 hown hW 0 0 1 13 rfl vW_0 rfl (by decide) ⟨rfl, rfl, rfl⟩ (hts _ q170) vW_g13 dX0_wrongIn_17 ?_
      refine lv_aload_n hx hb dX0_wrongIn_20 rfl (lv_at hl 2 rfl) ?_
      refine b_get hx hb hts in_X0 hown hW 2 0 0 0 rfl xW_0 rfl (by decide) ⟨rfl, rfl, rfl⟩ (hts _ q227) xW_g0 dX0_wrongIn_21 ?_
      refine b_get hx hb hts in_X1 hown hW 0 0 1 12 rfl vW_0 rfl (by decide) ⟨rfl, rfl, rfl⟩ (hts _ q167) vW_g12 dX0_wrongIn_24 ?_
      refine lv_imul hx hb dX0_wrongIn_27 ?_
      refine lv_icmp_ge (tgt := 97) hx hb dX0_wrongIn_28 (by decide) (fun c5 => ?_) (fun c5 => ?_)
      · have hf := q_t hf c5
        refine lv_iload_n hx hb dX0_wrongIn_97 rfl (lv_at hl 1 rfl) ?_
        refine b_toQ hE (fun Q hE => ?_)
        refine W.widen (k := fu * 3) (n := fu * 222) (by have := hq2; omega) (by have := hq2; omega) ?_
        exact b_iret hx hb hr hlk hE (b_perms hW (b_ord [2, 0, 1, 3] 4 rfl rfl rfl)) (v3, N1) rfl hf rfl dX0_wrongIn_98
      · have hf := q_f hf c5
        refine lv_aload_n hx hb dX0_wrongIn_31 rfl (lv_at hl 3 rfl) ?_
        refine lv_iload_n hx hb dX0_wrongIn_32 rfl (lv_at hl 0 rfl) ?_
        have hp6 : List.Perm ([vW g adN N1, gW L kd nu aa, xW g adX (adN 0) (adT 0) iX X, pW g LR so rn ri rl] : List va_W) ([pW g LR so rn ri rl] ++ [vW g adN N1, gW L kd nu aa, xW g adX (adN 0) (adT 0) iX X]) := b_perm [3] [0, 1, 2] 4 rfl rfl rfl rfl
        refine b_callX (vx_runS (As := [.ref x1, .int v4]) (rest := []) ⟨hx, hb, hml, hown, hts⟩ (m_X0_elementOf l hst D g H.size LR so rn ri rl x1 v4 _ _ hx1 hf) (va_cwS 2 hts (lw_S q474 q475 q76 q476) rfl rfl rfl (by decide +kernel) ⟨Nat.le_of_ble_eq_true rfl, Nat.le_of_ble_eq_true rfl⟩) (b_preS hW hp6) rfl rfl hl.1 rfl (lv_room (Nat.le_of_ble_eq_true rfl)) dX0_wrongIn_33 ⟨(show cn2 + 3 ≤ fu * 3 from by have := hq2; omega), (show sn2 + 222 ≤ fu * 222 from by have := hq2; omega)⟩) hW hp6 (fun E q6 ce6 u6 hok H locs hW hcell hcv hcl => ?_) (fun u6 hf H locs hW => ?_)
        · try dsimp only at hok hW
          obtain ⟨hE9, hf⟩ := hok; (try dsimp only at hf hW); subst hE9
          have hW : bW D g A s H locs [pW g LR so rn ri rl, vW g adN N1, gW L kd nu aa, xW g adX (adN 0) (adT 0) iX X] := hW
          exact b_outX hE hlk hno (b_perms hW (b_ord [3, 1, 2, 0] 4 rfl rfl rfl)) N1 rfl hcell hcv hcl ⟨rfl, hf⟩ (show (cn2 + 3) ≤ fu * 3 from by have := hq2; omega) (show (sn2 + 222) ≤ fu * 222 from by have := hq2; omega)
        · try dsimp only at hf hW
          revert hf hW; generalize u6 = r7; intro hf hW
          refine W.cs (cells' := (cn2 + 3)) (slots' := (sn2 + 222)) rfl rfl ?_
          have hW : bW D g A s H locs [pW g LR so rn ri rl, vW g adN N1, gW L kd nu aa, xW g adX (adN 0) (adT 0) iX X] := hW
          refine lv_aload_n hx hb dX0_wrongIn_36 rfl (lv_at hl 2 rfl) ?_
          refine b_get hx hb hts in_X0 hown hW 3 0 0 0 rfl xW_0 rfl (by decide) ⟨rfl, rfl, rfl⟩ (hts _ q227) xW_g0 dX0_wrongIn_37 ?_
          refine b_get hx hb hts in_X1 hown hW 1 0 1 9 rfl vW_0 rfl (by decide) ⟨rfl, rfl, rfl⟩ (hts _ q158) vW_g9 dX0_wrongIn_40 ?_
          refine lv_iload_n hx hb dX0_wrongIn_43 rfl (lv_at hl 0 rfl) ?_
          refine lv_aload_n hx hb dX0_wrongIn_44 rfl (lv_at hl 2 rfl) ?_
          refine b_get hx hb hts in_X0 hown hW 3 0 0 0 rfl xW_0 rfl (by decide) ⟨rfl, rfl, rfl⟩ (hts _ q227) xW_g0 dX0_wrongIn_45 ?_
          refine b_get hx hb hts in_X1 hown hW 1 0 1 12 rfl vW_0 rfl (by decide) ⟨rfl, rfl, rfl⟩ (hts _ q167) vW_g12 dX0_wrongIn_48 ?_
          obtain ⟨h8, hf⟩ := q_cs hf
          refine lv_idiv hx hb dX0_wrongIn_51 (o_nz h8) ?_
          obtain ⟨h9, hf⟩ := q_cs hf
          refine b_agrI hx hb hW 1 10 rfl vW_10 h9 dX0_wrongIn_52 ?_
          refine lv_iload_n hx hb dX0_wrongIn_53 rfl (lv_at hl 0 rfl) ?_
          refine lv_aload_n hx hb dX0_wrongIn_54 rfl (lv_at hl 2 rfl) ?_
          refine b_get hx hb hts in_X0 hown hW 3 0 0 0 rfl xW_0 rfl (by decide) ⟨rfl, rfl, rfl⟩ (hts _ q227) xW_g0 dX0_wrongIn_55 ?_
          refine b_get hx hb hts in_X1 hown hW 1 0 1 12 rfl vW_0 rfl (by decide) ⟨rfl, rfl, rfl⟩ (hts _ q167) vW_g12 dX0_wrongIn_58 ?_
          refine lv_irem hx hb dX0_wrongIn_61 (o_nz h8) ?_
          obtain ⟨h10, hf⟩ := q_cs hf
          refine b_iald hx hb hW 1 (11 + ix (v4 / (N1.1 0 0))) rfl (vW_r11 (inB_lt h9)) h10 dX0_wrongIn_62 ?_
          refine lv_i2l hx hb dX0_wrongIn_63 rfl ?_
          refine W.lcmp hx hb dX0_wrongIn_64 ?_
          refine lv_if_ne (tgt := 72) hx hb dX0_wrongIn_65 (by decide) (fun c11 => ?_) (fun c11 => ?_)
          · have hf := q_f hf c11
            refine lv_iconst (v := 0) hx hb dX0_wrongIn_72 (by decide) ?_
            refine lv_istore (lv' := [(4, .int 0), (3, .int v4), (2, .int v3), (0, .ref (adX 0)), (1, .ref x1)]) hx hb dX0_wrongIn_73 hl (by decide) rfl (fun ls hl => ?_)
            refine lv_iload_n hx hb dX0_wrongIn_75 rfl (lv_at hl 2 rfl) ?_
            refine lv_iconst (v := (-1)) hx hb dX0_wrongIn_76 (by decide) ?_
            refine lv_icmp_ne (tgt := 89) hx hb dX0_wrongIn_77 (by decide) (fun c12 => ?_) (fun c12 => ?_)
            · have hf := q_f hf c12
              refine lv_iload_n hx hb dX0_wrongIn_89 rfl (lv_at hl 2 rfl) ?_
              refine lv_istore_n (lv' := [(2, .int v3), (4, .int 0), (3, .int v4), (0, .ref (adX 0)), (1, .ref x1)]) hx hb dX0_wrongIn_90 rfl hl (by decide) rfl (fun ls hl => ?_)
              obtain ⟨v13, ev13, hf⟩ := q_ls hf
              refine lv_iinc (v := v13) (lv' := [(3, .int v13), (2, .int v3), (4, .int 0), (0, .ref (adX 0)), (1, .ref x1)]) hx hb dX0_wrongIn_91 hl (k := 2) rfl ev13 (by decide) rfl (fun ls hl => ?_)
              refine lv_goto (tgt := 12) hx hb dX0_wrongIn_94 (by decide) ?_
              exact ih2 _ _ ((cn2 + 3)) ((sn2 + 222)) (by have := hq2; constructor <;> omega) _ _ _ (b_perms hW (b_ord [1, 2, 3, 0] 4 rfl rfl rfl)) (lv_sub hl [0, 1, 3, 4] rfl) hf
            · have hf := q_t hf c12
              refine lv_iload hx hb dX0_wrongIn_80 (lv_at hl 0 rfl) ?_
              refine lv_if_ne (tgt := 89) hx hb dX0_wrongIn_82 (by decide) (fun hc => absurd hc (by decide)) (fun hc => ?_)
              refine lv_iload_n hx hb dX0_wrongIn_85 rfl (lv_at hl 1 rfl) ?_
              refine lv_goto (tgt := 90) hx hb dX0_wrongIn_86 (by decide) ?_
              refine lv_istore_n (lv' := [(2, .int v4), (4, .int 0), (3, .int v4), (0, .ref (adX 0)), (1, .ref x1)]) hx hb dX0_wrongIn_90 rfl hl (by decide) rfl (fun ls hl => ?_)
              obtain ⟨v14, ev14, hf⟩ := q_ls hf
              refine lv_iinc (v := v14) (lv' := [(3, .int v14), (2, .int v4), (4, .int 0), (0, .ref (adX 0)), (1, .ref x1)]) hx hb dX0_wrongIn_91 hl (k := 2) rfl ev14 (by decide) rfl (fun ls hl => ?_)
              refine lv_goto (tgt := 12) hx hb dX0_wrongIn_94 (by decide) ?_
              exact ih2 _ _ ((cn2 + 3)) ((sn2 + 222)) (by have := hq2; constructor <;> omega) _ _ _ (b_perms hW (b_ord [1, 2, 3, 0] 4 rfl rfl rfl)) (lv_sub hl [0, 1, 3, 4] rfl) hf
          · have hf := q_t hf c11
            refine lv_iconst (v := 1) hx hb dX0_wrongIn_68 (by decide) ?_
            refine lv_goto (tgt := 73) hx hb dX0_wrongIn_69 (by decide) ?_
            refine lv_istore (lv' := [(4, .int 1), (3, .int v4), (2, .int v3), (0, .ref (adX 0)), (1, .ref x1)]) hx hb dX0_wrongIn_73 hl (by decide) rfl (fun ls hl => ?_)
            refine lv_iload_n hx hb dX0_wrongIn_75 rfl (lv_at hl 2 rfl) ?_
            refine lv_iconst (v := (-1)) hx hb dX0_wrongIn_76 (by decide) ?_
            refine lv_icmp_ne (tgt := 89) hx hb dX0_wrongIn_77 (by decide) (fun c15 => ?_) (fun c15 => ?_)
            · have hf := q_f hf c15
              refine lv_iload_n hx hb dX0_wrongIn_89 rfl (lv_at hl 2 rfl) ?_
              refine lv_istore_n (lv' := [(2, .int v3), (4, .int 1), (3, .int v4), (0, .ref (adX 0)), (1, .ref x1)]) hx hb dX0_wrongIn_90 rfl hl (by decide) rfl (fun ls hl => ?_)
              obtain ⟨v16, ev16, hf⟩ := q_ls hf
              refine lv_iinc (v := v16) (lv' := [(3, .int v16), (2, .int v3), (4, .int 1), (0, .ref (adX 0)), (1, .ref x1)]) hx hb dX0_wrongIn_91 hl (k := 2) rfl ev16 (by decide) rfl (fun ls hl => ?_)
              refine lv_goto (tgt := 12) hx hb dX0_wrongIn_94 (by decide) ?_
              exact ih2 _ _ ((cn2 + 3)) ((sn2 + 222)) (by have := hq2; constructor <;> omega) _ _ _ (b_perms hW (b_ord [1, 2, 3, 0] 4 rfl rfl rfl)) (lv_sub hl [0, 1, 3, 4] rfl) hf
            · have hf := q_t hf c15
              refine lv_iload hx hb dX0_wrongIn_80 (lv_at hl 0 rfl) ?_
              refine lv_if_ne (tgt := 89) hx hb dX0_wrongIn_82 (by decide) (fun hc => ?_) (fun hc => absurd hc (by decide))
              refine lv_iload_n hx hb dX0_wrongIn_89 rfl (lv_at hl 2 rfl) ?_
              refine lv_istore_n (lv' := [(2, .int v3), (4, .int 1), (3, .int v4), (0, .ref (adX 0)), (1, .ref x1)]) hx hb dX0_wrongIn_90 rfl hl (by decide) rfl (fun ls hl => ?_)
              obtain ⟨v17, ev17, hf⟩ := q_ls hf
              refine lv_iinc (v := v17) (lv' := [(3, .int v17), (2, .int v3), (4, .int 1), (0, .ref (adX 0)), (1, .ref x1)]) hx hb dX0_wrongIn_91 hl (k := 2) rfl ev17 (by decide) rfl (fun ls hl => ?_)
              refine lv_goto (tgt := 12) hx hb dX0_wrongIn_94 (by decide) ?_
              exact ih2 _ _ ((cn2 + 3)) ((sn2 + 222)) (by have := hq2; constructor <;> omega) _ _ _ (b_perms hW (b_ord [1, 2, 3, 0] 4 rfl rfl rfl)) (lv_sub hl [0, 1, 3, 4] rfl) hf
  exact L2 _ _ _ (0) (0) (⟨Nat.le_of_eq (Nat.zero_add _), Nat.le_of_eq (Nat.zero_add _)⟩) _ _ _ hW (lv_sub hl [0, 1, 2, 3] rfl) hf
def f_X0_judge (fu : Nat) (X : BC) (N : BC) (L : List Nat) (kd : Nat → Nat) (nu : Nat → Int32) (aa : Nat → Int32) (LR : List Nat) (so : Nat → Nat) (rn : Nat → Nat) (ri : Nat → Nat → Int32) (rl : Nat → Nat → Int64) (x1 : Int32) (post : Int32 → BC → BC → Prop) : Prop :=
 q_b1 (f_X0_isShelf x1) fun (r1 : Int32) =>
 (if r1 = 0 then
 q_b2 (f_X0_no X (-2)) fun (r15 : Int32) (X16 : BC) =>
 post r15 X16 N
 else
 f_X0_rowIn X L kd nu aa LR so rn ri rl x1 (fun (z7 : Nat) =>
 f_X0_wrongIn fu X N L kd nu aa LR so rn ri rl z7 (fun (r13 : Int32) (N14 : BC) =>
 post r13 X N14) (fun (N10 : BC) => q_b2 (f_X0_no X (-2)) fun (r11 : Int32) (X12 : BC) =>
 post r11 X12 N10)) (fun (by4 : Int32) => q_b2 (f_X0_no X by4) fun (r5 : Int32) (X6 : BC) =>
 post r5 X6 N))
abbrev rm_X0_judge (fu : Nat) : Room := { frames := 11, cells := 1 + fu * 3, slots := 7 + fu * 222, locals := 10345 }
set_option maxHeartbeats 4000000 in
set_option maxRecDepth 100000 in
theorem m_X0_judge (l : Launch) (hst : l.stackTraces = false) (D : va_G) (g : Nat → ClassId) (sz : Nat) (adX : Nat → Nat) (iX : Option Nat) (adN : Nat → Nat) (adT : Nat → Nat) (fu : Nat) (X : BC) (N : BC) (L : List Nat) (kd : Nat → Nat) (nu : Nat → Int32) (aa : Nat → Int32) (LR : List Nat) (so : Nat → Nat) (rn : Nat → Nat) (ri : Nat → Nat → Int32) (rl : Nat → Nat → Int64) (x1 : Int32) (post : Int32 → BC → BC → Prop) (hf : f_X0_judge fu X N L kd nu aa LR so rn ri rl x1 post) : bxMet (S := Int32 × BC × BC) (SX := Unit) l yX0_judge (wsW_ yX0_judge cX0_judge 3 (some .int) [(14, 23, 24, 106), (14, 23, 34, 122)]) (rm_X0_judge fu) D g sz [.ref (adX 0), .int x1] [xW g adX (adN 0) (adT 0) iX X, vW g adN N, gW L kd nu aa, pW g LR so rn ri rl] (fun u => post u.1 u.2.1 u.2.2) (fun u => some (.int u.1)) (fun u => [xW g adX (adN 0) (adT 0) iX (u.2.1), vW g adN (u.2.2), gW L kd nu aa, pW g LR so rn ri rl]) (fun _ _ _ => False) (fun _ => [xW g adX (adN 0) (adT 0) iX X, vW g adN N, gW L kd nu aa, pW g LR so rn ri rl]) := by
  refine b_metH (by decide) (Nat.le_of_ble_eq_true rfl) ?_
  intro p e s m args below meth c A Q ls hx hb hml hr hlk hown hname hts htab hE hl hW
  revert hW; generalize s.heap = H; intro hW
  have hl : lv_has ls 3 [(0, .ref (adX 0)), (1, .int x1)] := hl
  rw [f_X0_judge] at hf
  refine lv_iload_n hx hb dX0_judge_0 rfl (lv_at hl 1 rfl) ?_
  obtain ⟨r1, hc1, hf⟩ := q_b1s hf
  have hp1 : List.Perm [xW g adX (adN 0) (adT 0) iX X, vW g adN N, gW L kd nu aa, pW g LR so rn ri rl] ([] ++ [xW g adX (adN 0) (adT 0) iX X, vW g adN N, gW L kd nu aa, pW g LR so rn ri rl]) := b_perm [] [0, 1, 2, 3] 4 rfl rfl rfl rfl
  refine b_call0 ⟨rfl, rfl⟩ (va_runS (As := [.int x1]) (rest := []) ⟨hx, hb, hml, hown, hts⟩ (m_X0_isShelf l D g H.size x1 r1 hc1) (va_cwS 1 hts (lw_S q341 q342 q76 q343) rfl rfl rfl (by decide +kernel) ⟨Nat.le_of_ble_eq_true rfl, Nat.le_of_ble_eq_true rfl⟩) (b_preS hW hp1) rfl rfl hl.1 rfl (lv_room (Nat.le_of_ble_eq_true rfl)) dX0_judge_1 ⟨(show 0 + 0 ≤ 1 + fu * 3 from by omega), (show 0 + 0 ≤ 7 + fu * 222 from by omega)⟩) hW hp1 (fun _ _ H locs hW => ?_)
  have hW : bW D g A s H locs [xW g adX (adN 0) (adT 0) iX X, vW g adN N, gW L kd nu aa, pW g LR so rn ri rl] := hW
  refine lv_if_ne (tgt := 14) hx hb dX0_judge_4 (by decide) (fun c2 => ?_) (fun c2 => ?_)
  · have hf := q_f hf c2
    refine lv_aload_n hx hb dX0_judge_14 rfl (lv_at hl 0 rfl) ?_
    refine lv_aload_n hx hb dX0_judge_15 rfl (lv_at hl 0 rfl) ?_
    refine lv_iload_n hx hb dX0_judge_16 rfl (lv_at hl 1 rfl) ?_
    have hp3 : List.Perm ([xW g adX (adN 0) (adT 0) iX X, vW g adN N, gW L kd nu aa, pW g LR so rn ri rl] : List va_W) ([xW g adX (adN 0) (adT 0) iX X, gW L kd nu aa, pW g LR so rn ri rl] ++ [vW g adN N]) := b_perm [0, 2, 3] [1] 4 rfl rfl rfl rfl
    refine b_callX (vx_runV (As := [.int x1]) (rest := [.ref (adX 0)]) ⟨hx, hb, hml, hown, hts⟩ (m_X0_rowIn l D g H.size adX iX adN adT X L kd nu aa LR so rn ri rl x1 _ _ hf) (cwV 1 hts (lw_V q381 q383 qs3 q76 q384) rfl rfl rfl (by decide +kernel) ⟨Nat.le_of_ble_eq_true rfl, Nat.le_of_ble_eq_true rfl⟩) (b_preV (pp := 0) (q := 0) hW hp3 rfl xW_0 rfl) rfl rfl hl.1 rfl (lv_room (Nat.le_of_ble_eq_true rfl)) dX0_judge_17 ⟨(show 0 + 1 ≤ 1 + fu * 3 from by omega), (show 0 + 7 ≤ 7 + fu * 222 from by omega)⟩) hW hp3 (fun E q3 ce3 u3 hok H locs hW hcell hcv hcl => ?_) (fun u3 hf H locs hW => ?_)
    · try dsimp only at hok hW
      obtain ⟨z9, by4⟩ := u3
      obtain ⟨hE9, hq9, hf⟩ := hok; (try dsimp only at hq9 hf hW); subst hE9; subst hq9
      have hW : bW D g A s H locs [xW g adX (adN 0) (adT 0) iX X, gW L kd nu aa, pW g LR so rn ri rl, [(q3, .inr (4, xRf by4))], vW g adN N] := hW
      refine vx_catch hown [] ⟨14, 23, 24, 106⟩ [⟨14, 23, 34, 122⟩] (htab.trans rfl) (fun z hz => nomatch hz) (by decide) (by decide) (hts _ q361) (b_castC hW.2.2.2.2.2 2 rfl) hcell hcv hcl ?_
      refine W.cs (cells' := 1) (slots' := 7) rfl rfl ?_
      refine lv_astore_n (lv' := [(2, .ref q3), (0, .ref (adX 0)), (1, .int x1)]) hx hb dX0_judge_24 rfl hl (by decide) rfl (fun ls hl => ?_)
      refine lv_aload_n hx hb dX0_judge_25 rfl (lv_at hl 1 rfl) ?_
      refine lv_aload_n hx hb dX0_judge_26 rfl (lv_at hl 0 rfl) ?_
      refine b_get hx hb hts in_X4 hown hW 3 0 4 6 rfl rfl rfl (by decide) ⟨rfl, rfl, rfl⟩ (hts _ q407) rfl dX0_judge_27 ?_
      obtain ⟨r5, X6, hc6, hf⟩ := q_b2s hf
      have hp6 : List.Perm [xW g adX (adN 0) (adT 0) iX X, gW L kd nu aa, pW g LR so rn ri rl, [(q3, .inr (4, xRf by4))], vW g adN N] ([xW g adX (adN 0) (adT 0) iX X] ++ [gW L kd nu aa, pW g LR so rn ri rl, [(q3, .inr (4, xRf by4))], vW g adN N]) := b_perm [0] [1, 2, 3, 4] 5 rfl rfl rfl rfl
      refine b_call0 ⟨rfl, rfl⟩ (va_runV (As := [.int by4]) (rest := []) ⟨hx, hb, hml, hown, hts⟩ (m_X0_no l D g H.size adX iX adN adT X by4 r5 X6 hc6) (cwV 1 hts (lw_V q347 q349 qs2 q76 q350) rfl rfl rfl (by decide +kernel) ⟨Nat.le_of_ble_eq_true rfl, Nat.le_of_ble_eq_true rfl⟩) (b_preV (pp := 0) (q := 0) hW hp6 rfl xW_0 rfl) rfl rfl hl.1 rfl (lv_room (Nat.le_of_ble_eq_true rfl)) dX0_judge_30 ⟨(show 1 + 0 ≤ 1 + fu * 3 from by omega), (show 7 + 0 ≤ 7 + fu * 222 from by omega)⟩) hW hp6 (fun _ _ H locs hW => ?_)
      have hW : bW D g A s H locs [xW g adX (adN 0) (adT 0) iX X6, gW L kd nu aa, pW g LR so rn ri rl, [(q3, .inr (4, xRf by4))], vW g adN N] := hW
      refine b_toQ hE (fun Q hE => ?_)
      refine W.widen (k := 1 + fu * 3) (n := 7 + fu * 222) (by omega) (by omega) ?_
      exact b_iret hx hb hr hlk hE (b_sub (Bs' := [xW g adX (adN 0) (adT 0) iX X6, vW g adN N, gW L kd nu aa, pW g LR so rn ri rl]) (wr := [[(q3, .inr (4, xRf by4))]]) hW (b_ord [0, 4, 1, 2, 3] 5 rfl rfl rfl)) (r5, X6, N) rfl hf rfl dX0_judge_33
    · try dsimp only at hf hW
      revert hf hW; generalize u3 = z7; intro hf hW
      obtain ⟨hz8, hf⟩ := hf
      refine W.cs (cells' := 1) (slots' := 7) rfl rfl ?_
      have hW : bW D g A s H locs [xW g adX (adN 0) (adT 0) iX X, gW L kd nu aa, pW g LR so rn ri rl, vW g adN N] := hW
      have hp9 : List.Perm ([xW g adX (adN 0) (adT 0) iX X, gW L kd nu aa, pW g LR so rn ri rl, vW g adN N] : List va_W) ([xW g adX (adN 0) (adT 0) iX X, vW g adN N, gW L kd nu aa, pW g LR so rn ri rl] ++ []) := b_perm [0, 3, 1, 2] [] 4 rfl rfl rfl rfl
      refine b_callX (vx_runV (As := [.ref z7]) (rest := []) ⟨hx, hb, hml, hown, hts⟩ (m_X0_wrongIn l hst D g H.size adX iX adN adT fu X N L kd nu aa LR so rn ri rl z7 _ _ hz8 hf) (cwV 1 hts (lw_V q1263 q1265 qs24 q76 q1266) rfl rfl rfl (by decide +kernel) ⟨Nat.le_of_ble_eq_true rfl, Nat.le_of_ble_eq_true rfl⟩) (b_preV (pp := 0) (q := 0) hW hp9 rfl xW_0 rfl) rfl rfl hl.1 rfl (lv_room (Nat.le_of_ble_eq_true rfl)) dX0_judge_20 ⟨(show 1 + (fu * 3) ≤ 1 + fu * 3 from by omega), (show 7 + (fu * 222) ≤ 7 + fu * 222 from by omega)⟩) hW hp9 (fun E q9 ce9 u9 hok H locs hW hcell hcv hcl => ?_) (fun u9 hf H locs hW => ?_)
      · try dsimp only at hok hW
        revert hok hW; generalize u9 = N10; intro hok hW
        obtain ⟨hE9, hf⟩ := hok; (try dsimp only at hf hW); subst hE9
        have hW : bW D g A s H locs [xW g adX (adN 0) (adT 0) iX X, vW g adN N10, gW L kd nu aa, pW g LR so rn ri rl] := hW
        refine vx_catch hown [⟨14, 23, 24, 106⟩] ⟨14, 23, 34, 122⟩ [] (htab.trans rfl) (List.forall_mem_cons.mpr ⟨Or.inr ⟨by decide, "EverybodyHasTheBook$Refused", hts _ q361, b_castN hW.2.2.2.2.2 117 rfl⟩, (fun z hz => nomatch hz)⟩) (by decide) (by decide) (hts _ q362) (b_castC hW.2.2.2.2.2 1 rfl) hcell hcv hcl ?_
        refine W.cs (cells' := (1 + (fu * 3))) (slots' := (7 + (fu * 222))) rfl rfl ?_
        refine lv_astore_n (lv' := [(2, .ref q9), (0, .ref (adX 0)), (1, .int x1)]) hx hb dX0_judge_34 rfl hl (by decide) rfl (fun ls hl => ?_)
        refine lv_aload_n hx hb dX0_judge_35 rfl (lv_at hl 1 rfl) ?_
        refine lv_bipush (v := (-2)) hx hb dX0_judge_36 (by decide) ?_
        obtain ⟨r11, X12, hc12, hf⟩ := q_b2s hf
        have hp12 : List.Perm [xW g adX (adN 0) (adT 0) iX X, vW g adN N10, gW L kd nu aa, pW g LR so rn ri rl] ([xW g adX (adN 0) (adT 0) iX X] ++ [vW g adN N10, gW L kd nu aa, pW g LR so rn ri rl]) := b_perm [0] [1, 2, 3] 4 rfl rfl rfl rfl
        refine b_call0 ⟨rfl, rfl⟩ (va_runV (As := [.int (-2)]) (rest := []) ⟨hx, hb, hml, hown, hts⟩ (m_X0_no l D g H.size adX iX adN adT X (-2) r11 X12 hc12) (cwV 1 hts (lw_V q347 q349 qs2 q76 q350) rfl rfl rfl (by decide +kernel) ⟨Nat.le_of_ble_eq_true rfl, Nat.le_of_ble_eq_true rfl⟩) (b_preV (pp := 0) (q := 0) hW hp12 rfl xW_0 rfl) rfl rfl hl.1 rfl (lv_room (Nat.le_of_ble_eq_true rfl)) dX0_judge_38 ⟨(show (1 + (fu * 3)) + 0 ≤ 1 + fu * 3 from by omega), (show (7 + (fu * 222)) + 0 ≤ 7 + fu * 222 from by omega)⟩) hW hp12 (fun _ _ H locs hW => ?_)
        have hW : bW D g A s H locs [xW g adX (adN 0) (adT 0) iX X12, vW g adN N10, gW L kd nu aa, pW g LR so rn ri rl] := hW
        refine b_toQ hE (fun Q hE => ?_)
        refine W.widen (k := 1 + fu * 3) (n := 7 + fu * 222) (by omega) (by omega) ?_
        exact b_iret hx hb hr hlk hE hW (r11, X12, N10) rfl hf rfl dX0_judge_41
      · try dsimp only at hf hW
        obtain ⟨r13, N14⟩ := u9
        try dsimp only at hf hW ⊢
        refine W.cs (cells' := (1 + (fu * 3))) (slots' := (7 + (fu * 222))) rfl rfl ?_
        have hW : bW D g A s H locs [xW g adX (adN 0) (adT 0) iX X, vW g adN N14, gW L kd nu aa, pW g LR so rn ri rl] := hW
        refine b_toQ hE (fun Q hE => ?_)
        refine W.widen (k := 1 + fu * 3) (n := 7 + fu * 222) (by omega) (by omega) ?_
        exact b_iret hx hb hr hlk hE hW (r13, X, N14) rfl hf rfl dX0_judge_23
  · have hf := q_t hf c2
    refine lv_aload_n hx hb dX0_judge_7 rfl (lv_at hl 0 rfl) ?_
    refine lv_bipush (v := (-2)) hx hb dX0_judge_8 (by decide) ?_
    obtain ⟨r15, X16, hc16, hf⟩ := q_b2s hf
    have hp16 : List.Perm [xW g adX (adN 0) (adT 0) iX X, vW g adN N, gW L kd nu aa, pW g LR so rn ri rl] ([xW g adX (adN 0) (adT 0) iX X] ++ [vW g adN N, gW L kd nu aa, pW g LR so rn ri rl]) := b_perm [0] [1, 2, 3] 4 rfl rfl rfl rfl
    refine b_call0 ⟨rfl, rfl⟩ (va_runV (As := [.int (-2)]) (rest := []) ⟨hx, hb, hml, hown, hts⟩ (m_X0_no l D g H.size adX iX adN adT X (-2) r15 X16 hc16) (cwV 1 hts (lw_V q347 q349 qs2 q76 q350) rfl rfl rfl (by decide +kernel) ⟨Nat.le_of_ble_eq_true rfl, Nat.le_of_ble_eq_true rfl⟩) (b_preV (pp := 0) (q := 0) hW hp16 rfl xW_0 rfl) rfl rfl hl.1 rfl (lv_room (Nat.le_of_ble_eq_true rfl)) dX0_judge_10 ⟨(show 0 + 0 ≤ 1 + fu * 3 from by omega), (show 0 + 0 ≤ 7 + fu * 222 from by omega)⟩) hW hp16 (fun _ _ H locs hW => ?_)
    have hW : bW D g A s H locs [xW g adX (adN 0) (adT 0) iX X16, vW g adN N, gW L kd nu aa, pW g LR so rn ri rl] := hW
    refine b_toQ hE (fun Q hE => ?_)
    refine W.widen (k := 1 + fu * 3) (n := 7 + fu * 222) (by omega) (by omega) ?_
    exact b_iret hx hb hr hlk hE hW (r15, X16, N) rfl hf rfl dX0_judge_13
def f_X0_back_n (X : BC) : Option (Int32 × BC) :=
 o_b2 (f_X0_no X (-5)) fun (r1 : Int32) (X2 : BC) =>
 some (r1, X2)
abbrev rm_X0_back_n : Room := { frames := 1, cells := 0, slots := 0, locals := 21 }
set_option maxHeartbeats 4000000 in
set_option maxRecDepth 100000 in
theorem m_X0_back_n (l : Launch) (D : va_G) (g : Nat → ClassId) (sz : Nat) (adX : Nat → Nat) (iX : Option Nat) (adN : Nat → Nat) (adT : Nat → Nat) (X : BC) (rO : Int32) (XO : BC) (hf : f_X0_back_n X = some (rO, XO)) : bMet (S := Unit) l yX0_back (ws_ yX0_back cX0_back 3 (some .int)) rm_X0_back_n D g sz [.ref (adX 0)] [xW g adX (adN 0) (adT 0) none X] (fun _ => True) (fun _ => some (.int rO)) (fun _ => [xW g adX (adN 0) (adT 0) none XO]) := by
  refine b_met (by decide) (Nat.le_of_ble_eq_true rfl) ?_
  intro p e s m args below meth c A Q ls hx hb hml hr hlk hown hname hts hE hl hW
  revert hW; generalize s.heap = H; intro hW
  have hl : lv_has ls 3 [(0, .ref (adX 0))] := hl
  rw [f_X0_back_n] at hf
  refine lv_aload_n hx hb dX0_back_0 rfl (lv_at hl 0 rfl) ?_
  refine b_get hx hb hts in_X0 hown hW 0 0 0 1 rfl xW_0 rfl (by decide) ⟨rfl, rfl, rfl⟩ (hts _ q228) xW_g1 dX0_back_1 ?_
  refine lv_ifnonnullN hx hb dX0_back_4 ?_
  refine lv_aload_n hx hb dX0_back_7 rfl (lv_at hl 0 rfl) ?_
  refine lv_bipush (v := (-5)) hx hb dX0_back_8 (by decide) ?_
  obtain ⟨r1, X2, hc2, hf⟩ := o_b2s hf
  have hp2 : List.Perm [xW g adX (adN 0) (adT 0) none X] ([xW g adX (adN 0) (adT 0) none X] ++ []) := b_perm [0] [] 1 rfl rfl rfl rfl
  refine b_call0 ⟨rfl, rfl⟩ (va_runV (As := [.int (-5)]) (rest := []) ⟨hx, hb, hml, hown, hts⟩ (m_X0_no l D g H.size adX none adN adT X (-5) r1 X2 hc2) (cwV 1 hts (lw_V q347 q349 qs2 q76 q350) rfl rfl rfl (by decide +kernel) ⟨Nat.le_of_ble_eq_true rfl, Nat.le_of_ble_eq_true rfl⟩) (b_preV (pp := 0) (q := 0) hW hp2 rfl xW_0 rfl) rfl rfl hl.1 rfl (lv_room (Nat.le_of_ble_eq_true rfl)) dX0_back_10 ⟨Nat.le_of_ble_eq_true rfl, Nat.le_of_ble_eq_true rfl⟩) hW hp2 (fun _ _ H locs hW => ?_)
  have hW : bW D g A s H locs [xW g adX (adN 0) (adT 0) none X2] := hW
  cases hf
  exact b_iret hx hb hr hlk hE hW () rfl trivial rfl dX0_back_13
def f_X0_back_s_L27 (L : List Nat) (kd : Nat → Nat) (nu : Nat → Int32) (LR : List Nat) (N2 : BC) (rec4 : (Int32 × BC) → Option (Int32 × BC × BC)) : Int32 × BC → Option (Int32 × BC × BC)
  | (v5, X6) =>
    (if (8 : Int32) ≤ v5 then
     some (1, X6, N2)
     else
     o_ck (inB v5 8) (o_op (X6.2.1 1 (ix v5)) (o_lt (v5 + 1) fun (v10 : Int32) =>
     rec4 (v10, X6)) fun (z9 : Nat) =>
     (if z9 ∈ LR then
     o_lt (v5 + 1) fun (v12 : Int32) =>
     rec4 (v12, X6)
     else
     o_ck (gIn L kd z9) (o_op (X6.2.1 1 (ix v5)) (none) fun (z14 : Nat) =>
     (if z14 ∈ LR then
     none
     else
     o_ck (gIn L kd z14) (o_lt (nu z14) fun (v17 : Int32) =>
     o_b1 (f_X0_isGoer X6 N2 v17) fun (r18 : Int32) =>
     (if r18 = 0 then
     o_lt (bR X6 1 (va_up (X6.2.1 1) (ix v5) none)) fun (X20 : BC) =>
     o_lt (v5 + 1) fun (v21 : Int32) =>
     rec4 (v21, X20)
     else
     o_ck (inB v17 6) (o_op (N2.2.1 8 (ix v17)) none fun (a23 : Nat) => o_ck (gIn L kd a23) (o_lt (bR X6 1 (va_up (X6.2.1 1) (ix v5) (some a23))) fun (X25 : BC) =>
     o_lt (v5 + 1) fun (v26 : Int32) =>
     rec4 (v26, X25))))))))))
def f_X0_back_s (fu : Nat) (X Y : BC) (L : List Nat) (kd : Nat → Nat) (nu aa : Nat → Int32) (LR : List Nat) : Option (Int32 × BC × BC) :=
 o_b1 (f_X1_copied Y L kd nu aa) fun (N2 : BC) =>
 o_lp (f_X0_back_s_L27 L kd nu LR N2) fu (0, X)
abbrev rm_X0_back_s : Room := { frames := 3, cells := 19, slots := 125, locals := 105 }
set_option maxHeartbeats 4000000 in
set_option maxRecDepth 100000 in
theorem m_X0_back_s (l : Launch) (D : va_G) (g : Nat → ClassId) (sz : Nat) (adX adN adT adY : Nat → Nat) (fu : Nat) (X Y : BC) (L : List Nat) (kd : Nat → Nat) (nu aa : Nat → Int32) (LR : List Nat) (so rn : Nat → Nat) (ri : Nat → Nat → Int32) (rl : Nat → Nat → Int64) (rO : Int32) (XO NO : BC) (hf : f_X0_back_s fu X Y L kd nu aa LR = some (rO, XO, NO)) : bMet (S := Nat → Nat) l yX0_back (ws_ yX0_back cX0_back 3 (some .int)) rm_X0_back_s D g sz [.ref (adX 0)] [xW g adX (adN 0) (adT 0) (some (adY 0)) X, vW g adY Y, gW L kd nu aa, pW g LR so rn ri rl] (fun _ => True) (fun _ => some (.int rO)) (fun ad => [xW g adX (ad 0) (adT 0) (some (adY 0)) XO, vW g ad NO, vW g adY Y, gW L kd nu aa, pW g LR so rn ri rl]) := by
  refine b_met (by decide) (Nat.le_of_ble_eq_true rfl) ?_
  intro p e s m args below meth c A Q ls hx hb hml hr hlk hown hname hts hE hl hW
  revert hW; generalize s.heap = H; intro hW
  have hl : lv_has ls 3 [(0, .ref (adX 0))] := hl
  rw [f_X0_back_s] at hf
  refine lv_aload_n hx hb dX0_back_0 rfl (lv_at hl 0 rfl) ?_
  refine b_get hx hb hts in_X0 hown hW 0 0 0 1 rfl xW_0 rfl (by decide) ⟨rfl, rfl, rfl⟩ (hts _ q228) xW_g1 dX0_back_1 ?_
  refine lv_ifnonnull (tgt := 14) hx hb dX0_back_4 (by decide) ?_
  refine lv_aload_n hx hb dX0_back_14 rfl (lv_at hl 0 rfl) ?_
  refine lv_aload_n hx hb dX0_back_15 rfl (lv_at hl 0 rfl) ?_
  refine b_get hx hb hts in_X0 hown hW 0 0 0 1 rfl xW_0 rfl (by decide) ⟨rfl, rfl, rfl⟩ (hts _ q228) xW_g1 dX0_back_16 ?_
  obtain ⟨N2, hc1, hf⟩ := o_b1s hf
  have hp1 : List.Perm ([xW g adX (adN 0) (adT 0) (some (adY 0)) X, vW g adY Y, gW L kd nu aa, pW g LR so rn ri rl] : List va_W) ([vW g adY Y, gW L kd nu aa] ++ [xW g adX (adN 0) (adT 0) (some (adY 0)) X, pW g LR so rn ri rl]) := b_perm [1, 2] [0, 3] 4 rfl rfl rfl rfl
  refine b_call (va_runV (As := []) (rest := [.ref (adX 0)]) ⟨hx, hb, hml, hown, hts⟩ (m_X1_copied l D g H.size adY Y L kd nu aa N2 hc1) (cwV 0 hts (lw_V q727 q728 q729 q77 q730) rfl rfl rfl (by decide +kernel) ⟨Nat.le_of_ble_eq_true rfl, Nat.le_of_ble_eq_true rfl⟩) (b_preV (pp := 1) (q := 0) hW hp1 rfl vW_0 rfl) rfl rfl hl.1 rfl (lv_room (Nat.le_of_ble_eq_true rfl)) dX0_back_19 ⟨Nat.le_of_ble_eq_true rfl, Nat.le_of_ble_eq_true rfl⟩) hW hp1 (fun adN3 _ H locs hW => ?_)
  refine W.cs (cells' := 19) (slots' := 125) rfl rfl ?_
  have hW : bW D g A s H locs [vW g adY Y, gW L kd nu aa, vW g adN3 N2, xW g adX (adN 0) (adT 0) (some (adY 0)) X, pW g LR so rn ri rl] := hW
  refine b_put hx hb hts in_X0 tyX0 tyX0_ok nmX0 hown hW 3 0 0 0 (v := .ref (adN3 0)) (w' := xW g adX (adN3 0) (adT 0) (some (adY 0)) X) (Bs' := [vW g adY Y, gW L kd nu aa, vW g adN3 N2, xW g adX (adN3 0) (adT 0) (some (adY 0)) X, pW g LR so rn ri rl]) rfl xW_0 rfl rfl rfl (by decide) ⟨rfl, rfl, rfl⟩ (hts _ q227) rfl (ty := .object "EverybodyHasTheBook$Valley") rfl rfl rfl (Nat.le_of_ble_eq_true rfl) dX0_back_22 (fun H locs hW => ?_)
  have hW : bW D g A s H locs [vW g adY Y, gW L kd nu aa, vW g adN3 N2, xW g adX (adN3 0) (adT 0) (some (adY 0)) X, pW g LR so rn ri rl] := hW
  refine lv_iconst (v := 0) hx hb dX0_back_25 (by decide) ?_
  refine lv_istore_n (lv' := [(1, .int 0), (0, .ref (adX 0))]) hx hb dX0_back_26 rfl hl (by decide) rfl (fun ls hl => ?_)
  obtain ⟨stp4, est4, hf⟩ := o_ln hf
  have L4 : ∀ (n : Nat) (v5 : Int32) (X6 : BC) (H : Heap) (locs : List Loc) (ls : Array Slot), bW D g A s H locs [vW g adY Y, gW L kd nu aa, vW g adN3 N2, xW g adX (adN3 0) (adT 0) (some (adY 0)) X6, pW g LR so rn ri rl] → lv_has ls 3 [(1, .int v5), (0, .ref (adX 0))] → o_lp stp4 n (v5, X6) = some (rO, XO, NO) → W p l e rm_X0_back_s s m args below meth c H locs 19 125 Q (F0 m 27 ls []) := by
    intro n4
    induction n4 with
    | zero => intro v5 X6 H locs ls hW hl hf; exact (o_lz hf).elim
    | succ n4 ih4 =>
      intro v5 X6 H locs ls hW hl hf
      have hf := o_lu est4 hf
      rw [f_X0_back_s_L27] at hf
      refine lv_iload_n hx hb dX0_back_27 rfl (lv_at hl 0 rfl) ?_
      refine lv_bipush (v := 8) hx hb dX0_back_28 (by decide) ?_
      refine lv_icmp_ge (tgt := 100) hx hb dX0_back_30 (by decide) (fun c7 => ?_) (fun c7 => ?_)
      · have hf := o_t hf c7
        refine lv_iconst (v := 1) hx hb dX0_back_100 (by decide) ?_
        cases hf
        exact b_iret hx hb hr hlk hE (b_perms hW (b_ord [3, 2, 0, 1, 4] 5 rfl rfl rfl)) adN3 rfl trivial rfl dX0_back_101
      · have hf := o_f hf c7
        refine lv_aload_n hx hb dX0_back_33 rfl (lv_at hl 1 rfl) ?_
        refine b_get hx hb hts in_X0 hown hW 3 0 0 3 rfl xW_0 rfl (by decide) ⟨rfl, rfl, rfl⟩ (hts _ q230) xW_g3 dX0_back_34 ?_
        refine lv_iload_n hx hb dX0_back_37 rfl (lv_at hl 0 rfl) ?_
        obtain ⟨h8, hf⟩ := o_cs hf
        refine b_aald hx hb hW 3 1 6 rfl xW_1 rfl h8 dX0_back_38 ?_
        refine W.eq (g2 := F0 m 39 ls [.ref (adX (2 + ix v5))]) rfl ?_
        refine b_get hx hb hts in_X2 hown hW 3 (2 + ix v5) 2 0 rfl (xW_r2 (inB_lt h8)) rfl (by decide) ⟨rfl, rfl, rfl⟩ (hts _ q222) rfl dX0_back_39 ?_
        refine b_split (fun hrf => ?_) (fun z9 hrf => ?_)
        · have hf := o_opn hf hrf
          refine lv_instN hx hb dX0_back_42 ?_
          refine lv_if_eq (tgt := 94) hx hb dX0_back_45 (by decide) (fun hc => ?_) (fun hc => absurd hc (by decide))
          obtain ⟨v10, ev10, hf⟩ := o_ls hf
          refine lv_iinc (v := v10) (lv' := [(1, .int v10), (0, .ref (adX 0))]) hx hb dX0_back_94 hl (k := 0) rfl ev10 (by decide) rfl (fun ls hl => ?_)
          refine lv_goto (tgt := 27) hx hb dX0_back_97 (by decide) ?_
          exact ih4 _ _ _ _ _ hW (lv_sub hl [0, 1] rfl) hf
        · have hf := o_ops hf hrf
          by_cases hz11 : z9 ∈ LR
          · have hf := o_t hf hz11
            refine b_rinN hx hb hown hW 4 rfl hz11 rfl (hts _ q385) (r_noG hW.2.2.2.2.2 _) dX0_back_42 ?_
            refine lv_if_eq (tgt := 94) hx hb dX0_back_45 (by decide) (fun hc => ?_) (fun hc => absurd hc (by decide))
            obtain ⟨v12, ev12, hf⟩ := o_ls hf
            refine lv_iinc (v := v12) (lv' := [(1, .int v12), (0, .ref (adX 0))]) hx hb dX0_back_94 hl (k := 0) rfl ev12 (by decide) rfl (fun ls hl => ?_)
            refine lv_goto (tgt := 27) hx hb dX0_back_97 (by decide) ?_
            exact ih4 _ _ _ _ _ hW (lv_sub hl [0, 1] rfl) hf
          · have hf := o_f hf hz11
            obtain ⟨h13, hf⟩ := o_cs hf
            refine b_instG hx hb hown (hts _ q385) hW 1 rfl h13 (fun _ => true) g_tbG dX0_back_42 ?_
            refine b_topi (y := 1) rfl ?_
            refine lv_if_eq (tgt := 94) hx hb dX0_back_45 (by decide) (fun hc => absurd hc (by decide)) (fun hc => ?_)
            refine lv_aload_n hx hb dX0_back_48 rfl (lv_at hl 1 rfl) ?_
            refine b_get hx hb hts in_X0 hown hW 3 0 0 3 rfl xW_0 rfl (by decide) ⟨rfl, rfl, rfl⟩ (hts _ q230) xW_g3 dX0_back_49 ?_
            refine lv_iload_n hx hb dX0_back_52 rfl (lv_at hl 0 rfl) ?_
            refine b_aald hx hb hW 3 1 6 rfl xW_1 rfl h8 dX0_back_53 ?_
            refine W.eq (g2 := F0 m 54 ls [.ref (adX (2 + ix v5))]) rfl ?_
            refine b_get hx hb hts in_X2 hown hW 3 (2 + ix v5) 2 0 rfl (xW_r2 (inB_lt h8)) rfl (by decide) ⟨rfl, rfl, rfl⟩ (hts _ q222) rfl dX0_back_54 ?_
            refine b_split (fun hrf => ?_) (fun z14 hrf => ?_)
            · have hf := o_opn hf hrf
              cases hf
            · have hf := o_ops hf hrf
              by_cases hz15 : z14 ∈ LR
              · have hf := o_t hf hz15
                cases hf
              · have hf := o_f hf hz15
                obtain ⟨h16, hf⟩ := o_cs hf
                refine b_castG hx hb hown (hts _ q385) hW 1 rfl h16 (fun _ => true) g_tbG rfl dX0_back_57 ?_
                refine b_getNu hx hb hts hown hW 1 rfl h16 (hts _ q616) (fun _ h => h) dX0_back_60 ?_
                obtain ⟨v17, ev17, hf⟩ := o_ls hf
                refine b_topi ev17 ?_
                refine lv_istore_n (lv' := [(2, .int v17), (1, .int v5), (0, .ref (adX 0))]) hx hb dX0_back_63 rfl hl (by decide) rfl (fun ls hl => ?_)
                refine lv_aload_n hx hb dX0_back_64 rfl (lv_at hl 2 rfl) ?_
                refine b_get hx hb hts in_X0 hown hW 3 0 0 3 rfl xW_0 rfl (by decide) ⟨rfl, rfl, rfl⟩ (hts _ q230) xW_g3 dX0_back_65 ?_
                refine lv_iload_n hx hb dX0_back_68 rfl (lv_at hl 1 rfl) ?_
                refine b_aald hx hb hW 3 1 6 rfl xW_1 rfl h8 dX0_back_69 ?_
                refine W.eq (g2 := F0 m 70 ls [.ref (adX (2 + ix v5))]) rfl ?_
                refine lv_aload_n hx hb dX0_back_70 rfl (lv_at hl 2 rfl) ?_
                refine lv_iload_n hx hb dX0_back_71 rfl (lv_at hl 0 rfl) ?_
                obtain ⟨r18, hc18, hf⟩ := o_b1s hf
                have hp18 : List.Perm [vW g adY Y, gW L kd nu aa, vW g adN3 N2, xW g adX (adN3 0) (adT 0) (some (adY 0)) X6, pW g LR so rn ri rl] ([xW g adX (adN3 0) (adT 0) (some (adY 0)) X6, vW g adN3 N2] ++ [vW g adY Y, gW L kd nu aa, pW g LR so rn ri rl]) := b_perm [3, 2] [0, 1, 4] 5 rfl rfl rfl rfl
                refine b_call0 ⟨rfl, rfl⟩ (va_runV (As := [.int v17]) (rest := [.ref (adX (2 + ix v5))]) ⟨hx, hb, hml, hown, hts⟩ (m_X0_isGoer l D g H.size adX (some (adY 0)) adN3 adT X6 N2 v17 r18 hc18) (cwV 1 hts (lw_V q485 q487 qs4 q76 q488) rfl rfl rfl (by decide +kernel) ⟨Nat.le_of_ble_eq_true rfl, Nat.le_of_ble_eq_true rfl⟩) (b_preV (pp := 3) (q := 0) hW hp18 rfl xW_0 rfl) rfl rfl hl.1 rfl (lv_room (Nat.le_of_ble_eq_true rfl)) dX0_back_72 ⟨Nat.le_of_ble_eq_true rfl, Nat.le_of_ble_eq_true rfl⟩) hW hp18 (fun _ _ H locs hW => ?_)
                have hW : bW D g A s H locs [xW g adX (adN3 0) (adT 0) (some (adY 0)) X6, vW g adN3 N2, vW g adY Y, gW L kd nu aa, pW g LR so rn ri rl] := hW
                refine lv_if_eq (tgt := 90) hx hb dX0_back_75 (by decide) (fun c19 => ?_) (fun c19 => ?_)
                · have hf := o_t hf c19
                  refine lv_null hx hb dX0_back_90 ?_
                  obtain ⟨X20, eX20, hf⟩ := o_ls hf
                  refine b_put hx hb hts in_X2 tyX2 tyX2_ok nmX2 hown hW 0 (2 + ix v5) 2 0 (v := .null) rfl (xW_r2 (inB_lt h8)) (xW_rs2 (x := none) (inB_lt h8) eX20) rfl rfl (by decide) ⟨rfl, rfl, rfl⟩ (hts _ q222) rfl (ty := .object "java/lang/Object") rfl rfl rfl Nat.zero_lt_one dX0_back_91 (fun H locs hW => ?_)
                  have hW : bW D g A s H locs [xW g adX (adN3 0) (adT 0) (some (adY 0)) X20, vW g adN3 N2, vW g adY Y, gW L kd nu aa, pW g LR so rn ri rl] := hW
                  obtain ⟨v21, ev21, hf⟩ := o_ls hf
                  refine lv_iinc (v := v21) (lv' := [(1, .int v21), (2, .int v17), (0, .ref (adX 0))]) hx hb dX0_back_94 hl (k := 1) rfl ev21 (by decide) rfl (fun ls hl => ?_)
                  refine lv_goto (tgt := 27) hx hb dX0_back_97 (by decide) ?_
                  exact ih4 _ _ _ _ _ (b_perms hW (b_ord [2, 3, 1, 0, 4] 5 rfl rfl rfl)) (lv_sub hl [0, 2] rfl) hf
                · have hf := o_f hf c19
                  refine lv_aload_n hx hb dX0_back_78 rfl (lv_at hl 2 rfl) ?_
                  refine b_get hx hb hts in_X0 hown hW 0 0 0 0 rfl xW_0 rfl (by decide) ⟨rfl, rfl, rfl⟩ (hts _ q227) xW_g0 dX0_back_79 ?_
                  refine b_get hx hb hts in_X1 hown hW 1 0 1 7 rfl vW_0 rfl (by decide) ⟨rfl, rfl, rfl⟩ (hts _ q154) vW_g7 dX0_back_82 ?_
                  refine lv_iload_n hx hb dX0_back_85 rfl (lv_at hl 0 rfl) ?_
                  obtain ⟨h22, hf⟩ := o_cs hf
                  refine b_aald hx hb hW 1 8 5 rfl vW_8 rfl h22 dX0_back_86 ?_
                  refine b_split (fun hrf => by cases (o_opn hf hrf)) (fun a23 hrf => ?_)
                  have hf := o_ops hf hrf
                  obtain ⟨h24, hf⟩ := o_cs hf
                  refine lv_goto (tgt := 91) hx hb dX0_back_87 (by decide) ?_
                  obtain ⟨X25, eX25, hf⟩ := o_ls hf
                  refine b_put hx hb hts in_X2 tyX2 tyX2_ok nmX2 hown hW 0 (2 + ix v5) 2 0 (v := .ref a23) rfl (xW_r2 (inB_lt h8)) (xW_rs2 (x := some a23) (inB_lt h8) eX25) rfl rfl (by decide) ⟨rfl, rfl, rfl⟩ (hts _ q222) rfl (ty := .object "java/lang/Object") rfl rfl rfl Nat.zero_lt_one dX0_back_91 (fun H locs hW => ?_)
                  have hW : bW D g A s H locs [xW g adX (adN3 0) (adT 0) (some (adY 0)) X25, vW g adN3 N2, vW g adY Y, gW L kd nu aa, pW g LR so rn ri rl] := hW
                  obtain ⟨v26, ev26, hf⟩ := o_ls hf
                  refine lv_iinc (v := v26) (lv' := [(1, .int v26), (2, .int v17), (0, .ref (adX 0))]) hx hb dX0_back_94 hl (k := 1) rfl ev26 (by decide) rfl (fun ls hl => ?_)
                  refine lv_goto (tgt := 27) hx hb dX0_back_97 (by decide) ?_
                  exact ih4 _ _ _ _ _ (b_perms hW (b_ord [2, 3, 1, 0, 4] 5 rfl rfl rfl)) (lv_sub hl [0, 2] rfl) hf
  exact L4 _ _ _ _ _ _ hW (lv_sub hl [0, 1] rfl) hf
