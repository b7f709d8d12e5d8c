/-! says(): printed by gen/all.py -/
set_option maxRecDepth 100000
def f_X0_says (fu : Nat) (X : BC) (N : BC) (L : List Nat) (kd : Nat → Nat) (nu : Nat → Int32) (aa : Nat → Int32) (LR : List Nat) (so : Nat → Nat) (rn : Nat → Nat) (ri : Nat → Nat → Int32) (rl : Nat → Nat → Int64) (x1 : Int32) (x2 : Int32) (post : Int32 → BC → Prop) : Prop :=
 q_b1 (f_X0_isShelf x1) fun (r1 : Int32) =>
 (if r1 = 0 then
 q_b2 (f_X0_no X (-2)) fun (r3 : Int32) (X4 : BC) =>
 post r3 X4
 else
 q_b1 (f_X0_isIn x2 0 5) fun (r5 : Int32) =>
 (if r5 = 0 then
 q_b2 (f_X0_no X (-2)) fun (r72 : Int32) (X73 : BC) =>
 post r72 X73
 else
 q_ck (inB x1 8) (q_op (X.2.1 1 (ix x1)) (q_b2 (f_X0_no X (-4)) fun (r9 : Int32) (X10 : BC) =>
 post r9 X10) fun (z8 : Nat) =>
 (if x2 = 0 then
 (if z8 ∈ LR then
 q_b2 (f_X0_no X (-3)) fun (r14 : Int32) (X15 : BC) =>
 post r14 X15
 else
 q_ck (gIn L kd z8) (q_ck (inB (nu z8) 6) (post (N.1 9 (ix (nu z8))) X)))
 else
 (if x2 = 1 then
 (if z8 ∈ LR then
 q_b2 (f_X0_no X (-3)) fun (r21 : Int32) (X22 : BC) =>
 post r21 X22
 else
 q_ck (gIn L kd z8) ((if gBk (kd z8) = true then
 q_b1 (f_X0_first fu X N L kd nu aa z8) fun (r25 : Int32) =>
 post r25 X
 else
 q_b2 (f_X0_no X (-3)) fun (r27 : Int32) (X28 : BC) =>
 post r27 X28)))
 else
 (if x2 = 2 then
 (if z8 ∈ LR then
 q_b2 (f_X0_no X (-3)) fun (r32 : Int32) (X33 : BC) =>
 post r32 X33
 else
 q_ck (gIn L kd z8) ((if gAg (kd z8) = true then
 q_b1 (f_X0_first fu X N L kd nu aa z8) fun (r36 : Int32) =>
 post r36 X
 else
 q_b2 (f_X0_no X (-3)) fun (r38 : Int32) (X39 : BC) =>
 post r38 X39)))
 else
 (if x2 = 3 then
 (if z8 ∈ LR then
 q_b2 (f_X0_no X (-3)) fun (r43 : Int32) (X44 : BC) =>
 post r43 X44
 else
 q_ck (gIn L kd z8) ((if gOw (kd z8) = true then
 q_b1 (f_X0_first fu X N L kd nu aa z8) fun (r47 : Int32) =>
 post r47 X
 else
 q_b2 (f_X0_no X (-3)) fun (r49 : Int32) (X50 : BC) =>
 post r49 X50)))
 else
 (if x2 = 4 then
 (if z8 ∈ LR then
 q_b2 (f_X0_no X (-3)) fun (r54 : Int32) (X55 : BC) =>
 post r54 X55
 else
 q_ck (gIn L kd z8) ((if gLe (kd z8) = true then
 q_b1 (f_X0_first fu X N L kd nu aa z8) fun (r58 : Int32) =>
 post r58 X
 else
 q_b2 (f_X0_no X (-3)) fun (r60 : Int32) (X61 : BC) =>
 post r60 X61)))
 else
 (if z8 ∈ LR then
 q_b2 (f_X0_no X (-3)) fun (r64 : Int32) (X65 : BC) =>
 post r64 X65
 else
 q_ck (gIn L kd z8) ((if gLa (kd z8) = true then
 q_b1 (f_X0_first fu X N L kd nu aa z8) fun (r68 : Int32) =>
 post r68 X
 else
 q_b2 (f_X0_no X (-3)) fun (r70 : Int32) (X71 : BC) =>
 post r70 X71)))))))))))
abbrev rm_X0_says : Room := { frames := 9, cells := 3, slots := 1010, locals := 10300 }
set_option maxHeartbeats 4000000 in
set_option maxRecDepth 100000 in
theorem m_X0_says (l : Launch) (hst : l.stackTraces = false) (D : va_G) (g : Nat → ClassId) (sz : Nat) (adX : Nat → Nat) (iX : Option Nat) (adN : Nat → Nat) (adT : Nat → Nat) (fu : Nat) (X : BC) (N : BC) (L : List Nat) (kd : Nat → Nat) (nu : Nat → Int32) (aa : Nat → Int32) (LR : List Nat) (so : Nat → Nat) (rn : Nat → Nat) (ri : Nat → Nat → Int32) (rl : Nat → Nat → Int64) (x1 : Int32) (x2 : Int32) (post : Int32 → BC → Prop) (hf : f_X0_says fu X N L kd nu aa LR so rn ri rl x1 x2 post) : bxMet (S := Int32 × BC) (SX := Unit) l yX0_says (wsW_ yX0_says cX0_says 5 (some .int) [(44, 95, 141, 167), (96, 104, 141, 167), (105, 113, 141, 167), (114, 122, 141, 167), (123, 131, 141, 167), (132, 140, 141, 167)]) rm_X0_says D g sz [.ref (adX 0), .int x1, .int x2] [xW g adX (adN 0) (adT 0) iX X, vW g adN N, gW L kd nu aa, pW g LR so rn ri rl] (fun u => post u.1 u.2) (fun u => some (.int u.1)) (fun u => [xW g adX (adN 0) (adT 0) iX (u.2), vW g adN N, gW L kd nu aa, pW g LR so rn ri rl]) (fun _ _ _ => False) (fun _ => [xW g adX (adN 0) (adT 0) iX X, vW g adN N, gW L kd nu aa, pW g LR so rn ri rl]) := by
  refine b_metH (by decide) (Nat.le_of_ble_eq_true rfl) ?_
  intro p e s m args below meth c A Q ls hx hb hml hr hlk hown hname hts htab hE hl hW
  revert hW; generalize s.heap = H; intro hW
  have hl : lv_has ls 5 [(0, .ref (adX 0)), (1, .int x1), (2, .int x2)] := hl
  rw [f_X0_says] at hf
  refine lv_iload_n hx hb dX0_says_0 rfl (lv_at hl 1 rfl) ?_
  obtain ⟨r1, hc1, hf⟩ := q_b1s hf
  have hp1 : List.Perm [xW g adX (adN 0) (adT 0) iX X, vW g adN N, gW L kd nu aa, pW g LR so rn ri rl] ([] ++ [xW g adX (adN 0) (adT 0) iX X, vW g adN N, gW L kd nu aa, pW g LR so rn ri rl]) := b_perm [] [0, 1, 2, 3] 4 rfl rfl rfl rfl
  refine b_call0 ⟨rfl, rfl⟩ (va_runS (As := [.int x1]) (rest := []) ⟨hx, hb, hml, hown, hts⟩ (m_X0_isShelf l D g H.size x1 r1 hc1) (va_cwS 1 hts (lw_S q341 q342 q76 q343) rfl rfl rfl (by decide +kernel) ⟨Nat.le_of_ble_eq_true rfl, Nat.le_of_ble_eq_true rfl⟩) (b_preS hW hp1) rfl rfl hl.1 rfl (lv_room (Nat.le_of_ble_eq_true rfl)) dX0_says_1 ⟨Nat.le_of_ble_eq_true rfl, Nat.le_of_ble_eq_true rfl⟩) hW hp1 (fun _ _ H locs hW => ?_)
  have hW : bW D g A s H locs [xW g adX (adN 0) (adT 0) iX X, vW g adN N, gW L kd nu aa, pW g LR so rn ri rl] := hW
  refine lv_if_eq (tgt := 16) hx hb dX0_says_4 (by decide) (fun c2 => ?_) (fun c2 => ?_)
  · have hf := q_t hf c2
    refine lv_aload_n hx hb dX0_says_16 rfl (lv_at hl 0 rfl) ?_
    refine lv_bipush (v := (-2)) hx hb dX0_says_17 (by decide) ?_
    obtain ⟨r3, X4, hc4, hf⟩ := q_b2s hf
    have hp4 : List.Perm [xW g adX (adN 0) (adT 0) iX X, vW g adN N, gW L kd nu aa, pW g LR so rn ri rl] ([xW g adX (adN 0) (adT 0) iX X] ++ [vW g adN N, gW L kd nu aa, pW g LR so rn ri rl]) := b_perm [0] [1, 2, 3] 4 rfl rfl rfl rfl
    refine b_call0 ⟨rfl, rfl⟩ (va_runV (As := [.int (-2)]) (rest := []) ⟨hx, hb, hml, hown, hts⟩ (m_X0_no l D g H.size adX iX adN adT X (-2) r3 X4 hc4) (cwV 1 hts (lw_V q347 q349 qs2 q76 q350) rfl rfl rfl (by decide +kernel) ⟨Nat.le_of_ble_eq_true rfl, Nat.le_of_ble_eq_true rfl⟩) (b_preV (pp := 0) (q := 0) hW hp4 rfl xW_0 rfl) rfl rfl hl.1 rfl (lv_room (Nat.le_of_ble_eq_true rfl)) dX0_says_19 ⟨Nat.le_of_ble_eq_true rfl, Nat.le_of_ble_eq_true rfl⟩) hW hp4 (fun _ _ H locs hW => ?_)
    have hW : bW D g A s H locs [xW g adX (adN 0) (adT 0) iX X4, vW g adN N, gW L kd nu aa, pW g LR so rn ri rl] := hW
    refine b_toQ hE (fun Q hE => ?_)
    refine W.widen (k := 3) (n := 1010) (by decide) (by decide) ?_
    exact b_iret hx hb hr hlk hE hW (r3, X4) rfl hf rfl dX0_says_22
  · have hf := q_f hf c2
    refine lv_iload_n hx hb dX0_says_7 rfl (lv_at hl 2 rfl) ?_
    refine lv_iconst (v := 0) hx hb dX0_says_8 (by decide) ?_
    refine lv_iconst (v := 5) hx hb dX0_says_9 (by decide) ?_
    obtain ⟨r5, hc5, hf⟩ := q_b1s hf
    have hp5 : List.Perm [xW g adX (adN 0) (adT 0) iX X, vW g adN N, gW L kd nu aa, pW g LR so rn ri rl] ([] ++ [xW g adX (adN 0) (adT 0) iX X, vW g adN N, gW L kd nu aa, pW g LR so rn ri rl]) := b_perm [] [0, 1, 2, 3] 4 rfl rfl rfl rfl
    refine b_call0 ⟨rfl, rfl⟩ (va_runS (As := [.int x2, .int 0, .int 5]) (rest := []) ⟨hx, hb, hml, hown, hts⟩ (m_X0_isIn l D g H.size x2 0 5 r5 hc5) (va_cwS 3 hts (lw_S q344 q345 q76 q346) rfl rfl rfl (by decide +kernel) ⟨Nat.le_of_ble_eq_true rfl, Nat.le_of_ble_eq_true rfl⟩) (b_preS hW hp5) rfl rfl hl.1 rfl (lv_room (Nat.le_of_ble_eq_true rfl)) dX0_says_10 ⟨Nat.le_of_ble_eq_true rfl, Nat.le_of_ble_eq_true rfl⟩) hW hp5 (fun _ _ H locs hW => ?_)
    have hW : bW D g A s H locs [xW g adX (adN 0) (adT 0) iX X, vW g adN N, gW L kd nu aa, pW g LR so rn ri rl] := hW
    refine lv_if_ne (tgt := 23) hx hb dX0_says_13 (by decide) (fun c6 => ?_) (fun c6 => ?_)
    · have hf := q_f hf c6
      refine lv_aload_n hx hb dX0_says_23 rfl (lv_at hl 0 rfl) ?_
      refine b_get hx hb hts in_X0 hown hW 0 0 0 3 rfl xW_0 rfl (by decide) ⟨rfl, rfl, rfl⟩ (hts _ q230) xW_g3 dX0_says_24 ?_
      refine lv_iload_n hx hb dX0_says_27 rfl (lv_at hl 1 rfl) ?_
      obtain ⟨h7, hf⟩ := q_cs hf
      refine b_aald hx hb hW 0 1 6 rfl xW_1 rfl h7 dX0_says_28 ?_
      refine W.eq (g2 := F0 m 29 ls [.ref (adX (2 + ix x1))]) rfl ?_
      refine b_get hx hb hts in_X2 hown hW 0 (2 + ix x1) 2 0 rfl (xW_r2 (inB_lt h7)) rfl (by decide) ⟨rfl, rfl, rfl⟩ (hts _ q222) rfl dX0_says_29 ?_
      refine b_split (fun hrf => ?_) (fun z8 hrf => ?_)
      · have hf := q_opn hf hrf
        refine lv_astore_nN (lv' := [(3, .null), (0, .ref (adX 0)), (1, .int x1), (2, .int x2)]) hx hb dX0_says_32 rfl hl (by decide) rfl (fun ls hl => ?_)
        refine lv_aload_nN hx hb dX0_says_33 rfl (lv_at hl 0 rfl) ?_
        refine lv_ifnonnullN hx hb dX0_says_34 ?_
        refine lv_aload_n hx hb dX0_says_37 rfl (lv_at hl 1 rfl) ?_
        refine lv_bipush (v := (-4)) hx hb dX0_says_38 (by decide) ?_
        obtain ⟨r9, X10, hc10, hf⟩ := q_b2s hf
        have hp10 : List.Perm [xW g adX (adN 0) (adT 0) iX X, vW g adN N, gW L kd nu aa, pW g LR so rn ri rl] ([xW g adX (adN 0) (adT 0) iX X] ++ [vW g adN N, gW L kd nu aa, pW g LR so rn ri rl]) := b_perm [0] [1, 2, 3] 4 rfl rfl rfl rfl
        refine b_call0 ⟨rfl, rfl⟩ (va_runV (As := [.int (-4)]) (rest := []) ⟨hx, hb, hml, hown, hts⟩ (m_X0_no l D g H.size adX iX adN adT X (-4) r9 X10 hc10) (cwV 1 hts (lw_V q347 q349 qs2 q76 q350) rfl rfl rfl (by decide +kernel) ⟨Nat.le_of_ble_eq_true rfl, Nat.le_of_ble_eq_true rfl⟩) (b_preV (pp := 0) (q := 0) hW hp10 rfl xW_0 rfl) rfl rfl hl.1 rfl (lv_room (Nat.le_of_ble_eq_true rfl)) dX0_says_40 ⟨Nat.le_of_ble_eq_true rfl, Nat.le_of_ble_eq_true rfl⟩) hW hp10 (fun _ _ H locs hW => ?_)
        have hW : bW D g A s H locs [xW g adX (adN 0) (adT 0) iX X10, vW g adN N, gW L kd nu aa, pW g LR so rn ri rl] := hW
        refine b_toQ hE (fun Q hE => ?_)
        refine W.widen (k := 3) (n := 1010) (by decide) (by decide) ?_
        exact b_iret hx hb hr hlk hE hW (r9, X10) rfl hf rfl dX0_says_43
      · have hf := q_ops hf hrf
        refine lv_astore_n (lv' := [(3, .ref z8), (0, .ref (adX 0)), (1, .int x1), (2, .int x2)]) hx hb dX0_says_32 rfl hl (by decide) rfl (fun ls hl => ?_)
        refine lv_aload_n hx hb dX0_says_33 rfl (lv_at hl 0 rfl) ?_
        refine lv_ifnonnull (tgt := 44) hx hb dX0_says_34 (by decide) ?_
        refine lv_iload_n hx hb dX0_says_44 rfl (lv_at hl 3 rfl) ?_
        by_cases c11 : x2 = 0
        · have hf := q_t hf c11
          refine lv_tableIn (off := 35) (tgt := 80) hx hb dX0_says_45 (by rw [c11]; decide) (by rw [c11]; decide) (by rw [c11]; rfl) (by decide) ?_
          refine lv_aload_n hx hb dX0_says_80 rfl (lv_at hl 1 rfl) ?_
          refine b_get hx hb hts in_X0 hown hW 0 0 0 0 rfl xW_0 rfl (by decide) ⟨rfl, rfl, rfl⟩ (hts _ q227) xW_g0 dX0_says_81 ?_
          refine b_get hx hb hts in_X1 hown hW 1 0 1 8 rfl vW_0 rfl (by decide) ⟨rfl, rfl, rfl⟩ (hts _ q156) vW_g8 dX0_says_84 ?_
          refine lv_aload_n hx hb dX0_says_87 rfl (lv_at hl 0 rfl) ?_
          by_cases hz12 : z8 ∈ LR
          · have hf := q_t hf hz12
            refine b_castZ hx hb hst hts hown (hts _ q385) hW (C := rN (so z8)) (r_noG hW.2.2.2.2.2 _) (r_xMs _) (by decide) (r_recv hW 3 rfl hz12 rfl) (hl.1.trans hml.symm) hlk ⟨Nat.le_of_ble_eq_true rfl, Nat.le_of_ble_eq_true rfl⟩ (Nat.le_of_ble_eq_true rfl) ⟨Nat.le_of_ble_eq_true rfl, Nat.le_of_ble_eq_true rfl⟩ dX0_says_88 (fun H q13 ce13 hW hcell hcv hcl => ?_)
            refine vx_catch hown [] ⟨44, 95, 141, 167⟩ [⟨96, 104, 141, 167⟩, ⟨105, 113, 141, 167⟩, ⟨114, 122, 141, 167⟩, ⟨123, 131, 141, 167⟩, ⟨132, 140, 141, 167⟩] (htab.trans rfl) (fun z hz => nomatch hz) (by decide) (by decide) (hts _ q493) (b_castC hW.2.2.2.2.2 6 rfl) hcell hcv hcl ?_
            refine W.cs (cells' := 3) (slots' := 1010) rfl rfl ?_
            refine lv_astore (lv' := [(4, .ref q13), (3, .ref z8), (0, .ref (adX 0)), (1, .int x1), (2, .int x2)]) hx hb dX0_says_141 hl (by decide) rfl (fun ls hl => ?_)
            refine lv_aload_n hx hb dX0_says_143 rfl (lv_at hl 2 rfl) ?_
            refine lv_bipush (v := (-3)) hx hb dX0_says_144 (by decide) ?_
            obtain ⟨r14, X15, hc15, hf⟩ := q_b2s hf
            have hp15 : List.Perm [xW g adX (adN 0) (adT 0) iX X, vW g adN N, gW L kd nu aa, pW g LR so rn ri rl] ([xW g adX (adN 0) (adT 0) iX X] ++ [vW g adN N, gW L kd nu aa, pW g LR so rn ri rl]) := b_perm [0] [1, 2, 3] 4 rfl rfl rfl rfl
            refine b_call0 ⟨rfl, rfl⟩ (va_runV (As := [.int (-3)]) (rest := []) ⟨hx, hb, hml, hown, hts⟩ (m_X0_no l D g H.size adX iX adN adT X (-3) r14 X15 hc15) (cwV 1 hts (lw_V q347 q349 qs2 q76 q350) rfl rfl rfl (by decide +kernel) ⟨Nat.le_of_ble_eq_true rfl, Nat.le_of_ble_eq_true rfl⟩) (b_preV (pp := 0) (q := 0) hW hp15 rfl xW_0 rfl) rfl rfl hl.1 rfl (lv_room (Nat.le_of_ble_eq_true rfl)) dX0_says_146 ⟨Nat.le_of_ble_eq_true rfl, Nat.le_of_ble_eq_true rfl⟩) hW hp15 (fun _ _ H locs hW => ?_)
            have hW : bW D g A s H locs [xW g adX (adN 0) (adT 0) iX X15, vW g adN N, gW L kd nu aa, pW g LR so rn ri rl] := hW
            refine b_toQ hE (fun Q hE => ?_)
            refine W.widen (k := 3) (n := 1010) (by decide) (by decide) ?_
            exact b_iret hx hb hr hlk hE hW (r14, X15) rfl hf rfl dX0_says_149
          · have hf := q_f hf hz12
            obtain ⟨h16, hf⟩ := q_cs hf
            refine b_castG hx hb hown (hts _ q385) hW 2 rfl h16 (fun _ => true) g_tbG rfl dX0_says_88 ?_
            refine b_getNu hx hb hts hown hW 2 rfl h16 (hts _ q616) (fun _ h => h) dX0_says_91 ?_
            obtain ⟨h17, hf⟩ := q_cs hf
            refine b_iald hx hb hW 1 9 rfl vW_9 h17 dX0_says_94 ?_
            refine b_toQ hE (fun Q hE => ?_)
            refine W.widen (k := 3) (n := 1010) (by decide) (by decide) ?_
            exact b_iret hx hb hr hlk hE hW (N.1 9 (ix (nu z8)), X) rfl hf rfl dX0_says_95
        · have hf := q_f hf c11
          by_cases c18 : x2 = 1
          · have hf := q_t hf c18
            refine lv_tableIn (off := 51) (tgt := 96) hx hb dX0_says_45 (by rw [c18]; decide) (by rw [c18]; decide) (by rw [c18]; rfl) (by decide) ?_
            refine lv_aload_n hx hb dX0_says_96 rfl (lv_at hl 1 rfl) ?_
            refine lv_aload_n hx hb dX0_says_97 rfl (lv_at hl 0 rfl) ?_
            by_cases hz19 : z8 ∈ LR
            · have hf := q_t hf hz19
              refine b_castZ hx hb hst hts hown (hts _ q507) hW (C := rN (so z8)) (r_noB hW.2.2.2.2.2 _) (r_xMs _) (by decide) (r_recv hW 3 rfl hz19 rfl) (hl.1.trans hml.symm) hlk ⟨Nat.le_of_ble_eq_true rfl, Nat.le_of_ble_eq_true rfl⟩ (Nat.le_of_ble_eq_true rfl) ⟨Nat.le_of_ble_eq_true rfl, Nat.le_of_ble_eq_true rfl⟩ dX0_says_98 (fun H q20 ce20 hW hcell hcv hcl => ?_)
              refine vx_catch hown [⟨44, 95, 141, 167⟩] ⟨96, 104, 141, 167⟩ [⟨105, 113, 141, 167⟩, ⟨114, 122, 141, 167⟩, ⟨123, 131, 141, 167⟩, ⟨132, 140, 141, 167⟩] (htab.trans rfl) (List.forall_mem_cons.mpr ⟨Or.inl (by decide), (fun z hz => nomatch hz)⟩) (by decide) (by decide) (hts _ q493) (b_castC hW.2.2.2.2.2 6 rfl) hcell hcv hcl ?_
              refine W.cs (cells' := 3) (slots' := 1010) rfl rfl ?_
              refine lv_astore (lv' := [(4, .ref q20), (3, .ref z8), (0, .ref (adX 0)), (1, .int x1), (2, .int x2)]) hx hb dX0_says_141 hl (by decide) rfl (fun ls hl => ?_)
              refine lv_aload_n hx hb dX0_says_143 rfl (lv_at hl 2 rfl) ?_
              refine lv_bipush (v := (-3)) hx hb dX0_says_144 (by decide) ?_
              obtain ⟨r21, X22, hc22, hf⟩ := q_b2s hf
              have hp22 : List.Perm [xW g adX (adN 0) (adT 0) iX X, vW g adN N, gW L kd nu aa, pW g LR so rn ri rl] ([xW g adX (adN 0) (adT 0) iX X] ++ [vW g adN N, gW L kd nu aa, pW g LR so rn ri rl]) := b_perm [0] [1, 2, 3] 4 rfl rfl rfl rfl
              refine b_call0 ⟨rfl, rfl⟩ (va_runV (As := [.int (-3)]) (rest := []) ⟨hx, hb, hml, hown, hts⟩ (m_X0_no l D g H.size adX iX adN adT X (-3) r21 X22 hc22) (cwV 1 hts (lw_V q347 q349 qs2 q76 q350) rfl rfl rfl (by decide +kernel) ⟨Nat.le_of_ble_eq_true rfl, Nat.le_of_ble_eq_true rfl⟩) (b_preV (pp := 0) (q := 0) hW hp22 rfl xW_0 rfl) rfl rfl hl.1 rfl (lv_room (Nat.le_of_ble_eq_true rfl)) dX0_says_146 ⟨Nat.le_of_ble_eq_true rfl, Nat.le_of_ble_eq_true rfl⟩) hW hp22 (fun _ _ H locs hW => ?_)
              have hW : bW D g A s H locs [xW g adX (adN 0) (adT 0) iX X22, vW g adN N, gW L kd nu aa, pW g LR so rn ri rl] := hW
              refine b_toQ hE (fun Q hE => ?_)
              refine W.widen (k := 3) (n := 1010) (by decide) (by decide) ?_
              exact b_iret hx hb hr hlk hE hW (r21, X22) rfl hf rfl dX0_says_149
            · have hf := q_f hf hz19
              obtain ⟨h23, hf⟩ := q_cs hf
              by_cases c24 : gBk (kd z8) = true
              · have hf := q_t hf c24
                refine b_castG hx hb hown (hts _ q507) hW 2 rfl h23 gBk g_tbB c24 dX0_says_98 ?_
                obtain ⟨r25, hc25, hf⟩ := q_b1s hf
                have hp25 : List.Perm [xW g adX (adN 0) (adT 0) iX X, vW g adN N, gW L kd nu aa, pW g LR so rn ri rl] ([xW g adX (adN 0) (adT 0) iX X, vW g adN N, gW L kd nu aa] ++ [pW g LR so rn ri rl]) := b_perm [0, 1, 2] [3] 4 rfl rfl rfl rfl
                refine b_call0 ⟨rfl, rfl⟩ (va_runV (As := [.ref z8]) (rest := []) ⟨hx, hb, hml, hown, hts⟩ (m_X0_first l D g H.size adX iX adN adT fu X N L kd nu aa z8 r25 hc25) (cwV 1 hts (lw_V q508 q510 qs5 q76 q511) rfl rfl rfl (by decide +kernel) ⟨Nat.le_of_ble_eq_true rfl, Nat.le_of_ble_eq_true rfl⟩) (b_preV (pp := 0) (q := 0) hW hp25 rfl xW_0 rfl) rfl rfl hl.1 rfl (lv_room (Nat.le_of_ble_eq_true rfl)) dX0_says_101 ⟨Nat.le_of_ble_eq_true rfl, Nat.le_of_ble_eq_true rfl⟩) hW hp25 (fun _ _ H locs hW => ?_)
                have hW : bW D g A s H locs [xW g adX (adN 0) (adT 0) iX X, vW g adN N, gW L kd nu aa, pW g LR so rn ri rl] := hW
                refine b_toQ hE (fun Q hE => ?_)
                refine W.widen (k := 3) (n := 1010) (by decide) (by decide) ?_
                exact b_iret hx hb hr hlk hE hW (r25, X) rfl hf rfl dX0_says_104
              · have hf := q_f hf c24
                have hno := g_tbB _ (gIn_1 h23).2
                rw [if_neg c24] at hno
                refine b_castZ hx hb hst hts hown (hts _ q507) hW (C := gC (kd z8)) (hW.2.2.2.2.2.2.2.2.1 _ hno) (g_xMs _ (gIn_1 h23).2) (by decide) (g_recv hW 2 rfl h23) (hl.1.trans hml.symm) hlk ⟨Nat.le_of_ble_eq_true rfl, Nat.le_of_ble_eq_true rfl⟩ (Nat.le_of_ble_eq_true rfl) ⟨Nat.le_of_ble_eq_true rfl, Nat.le_of_ble_eq_true rfl⟩ dX0_says_98 (fun H q26 ce26 hW hcell hcv hcl => ?_)
                refine vx_catch hown [⟨44, 95, 141, 167⟩] ⟨96, 104, 141, 167⟩ [⟨105, 113, 141, 167⟩, ⟨114, 122, 141, 167⟩, ⟨123, 131, 141, 167⟩, ⟨132, 140, 141, 167⟩] (htab.trans rfl) (List.forall_mem_cons.mpr ⟨Or.inl (by decide), (fun z hz => nomatch hz)⟩) (by decide) (by decide) (hts _ q493) (b_castC hW.2.2.2.2.2 6 rfl) hcell hcv hcl ?_
                refine W.cs (cells' := 3) (slots' := 1010) rfl rfl ?_
                refine lv_astore (lv' := [(4, .ref q26), (3, .ref z8), (0, .ref (adX 0)), (1, .int x1), (2, .int x2)]) hx hb dX0_says_141 hl (by decide) rfl (fun ls hl => ?_)
                refine lv_aload_n hx hb dX0_says_143 rfl (lv_at hl 2 rfl) ?_
                refine lv_bipush (v := (-3)) hx hb dX0_says_144 (by decide) ?_
                obtain ⟨r27, X28, hc28, hf⟩ := q_b2s hf
                have hp28 : List.Perm [xW g adX (adN 0) (adT 0) iX X, vW g adN N, gW L kd nu aa, pW g LR so rn ri rl] ([xW g adX (adN 0) (adT 0) iX X] ++ [vW g adN N, gW L kd nu aa, pW g LR so rn ri rl]) := b_perm [0] [1, 2, 3] 4 rfl rfl rfl rfl
                refine b_call0 ⟨rfl, rfl⟩ (va_runV (As := [.int (-3)]) (rest := []) ⟨hx, hb, hml, hown, hts⟩ (m_X0_no l D g H.size adX iX adN adT X (-3) r27 X28 hc28) (cwV 1 hts (lw_V q347 q349 qs2 q76 q350) rfl rfl rfl (by decide +kernel) ⟨Nat.le_of_ble_eq_true rfl, Nat.le_of_ble_eq_true rfl⟩) (b_preV (pp := 0) (q := 0) hW hp28 rfl xW_0 rfl) rfl rfl hl.1 rfl (lv_room (Nat.le_of_ble_eq_true rfl)) dX0_says_146 ⟨Nat.le_of_ble_eq_true rfl, Nat.le_of_ble_eq_true rfl⟩) hW hp28 (fun _ _ H locs hW => ?_)
                have hW : bW D g A s H locs [xW g adX (adN 0) (adT 0) iX X28, vW g adN N, gW L kd nu aa, pW g LR so rn ri rl] := hW
                refine b_toQ hE (fun Q hE => ?_)
                refine W.widen (k := 3) (n := 1010) (by decide) (by decide) ?_
                exact b_iret hx hb hr hlk hE hW (r27, X28) rfl hf rfl dX0_says_149
          · have hf := q_f hf c18
            by_cases c29 : x2 = 2
            · have hf := q_t hf c29
              refine lv_tableIn (off := 60) (tgt := 105) hx hb dX0_says_45 (by rw [c29]; decide) (by rw [c29]; decide) (by rw [c29]; rfl) (by decide) ?_
              refine lv_aload_n hx hb dX0_says_105 rfl (lv_at hl 1 rfl) ?_
              refine lv_aload_n hx hb dX0_says_106 rfl (lv_at hl 0 rfl) ?_
              by_cases hz30 : z8 ∈ LR
              · have hf := q_t hf hz30
                refine b_castZ hx hb hst hts hown (hts _ q591) hW (C := rN (so z8)) (r_noA hW.2.2.2.2.2 _) (r_xMs _) (by decide) (r_recv hW 3 rfl hz30 rfl) (hl.1.trans hml.symm) hlk ⟨Nat.le_of_ble_eq_true rfl, Nat.le_of_ble_eq_true rfl⟩ (Nat.le_of_ble_eq_true rfl) ⟨Nat.le_of_ble_eq_true rfl, Nat.le_of_ble_eq_true rfl⟩ dX0_says_107 (fun H q31 ce31 hW hcell hcv hcl => ?_)
                refine vx_catch hown [⟨44, 95, 141, 167⟩, ⟨96, 104, 141, 167⟩] ⟨105, 113, 141, 167⟩ [⟨114, 122, 141, 167⟩, ⟨123, 131, 141, 167⟩, ⟨132, 140, 141, 167⟩] (htab.trans rfl) (List.forall_mem_cons.mpr ⟨Or.inl (by decide), (List.forall_mem_cons.mpr ⟨Or.inl (by decide), (fun z hz => nomatch hz)⟩)⟩) (by decide) (by decide) (hts _ q493) (b_castC hW.2.2.2.2.2 6 rfl) hcell hcv hcl ?_
                refine W.cs (cells' := 3) (slots' := 1010) rfl rfl ?_
                refine lv_astore (lv' := [(4, .ref q31), (3, .ref z8), (0, .ref (adX 0)), (1, .int x1), (2, .int x2)]) hx hb dX0_says_141 hl (by decide) rfl (fun ls hl => ?_)
                refine lv_aload_n hx hb dX0_says_143 rfl (lv_at hl 2 rfl) ?_
                refine lv_bipush (v := (-3)) hx hb dX0_says_144 (by decide) ?_
                obtain ⟨r32, X33, hc33, hf⟩ := q_b2s hf
                have hp33 : List.Perm [xW g adX (adN 0) (adT 0) iX X, vW g adN N, gW L kd nu aa, pW g LR so rn ri rl] ([xW g adX (adN 0) (adT 0) iX X] ++ [vW g adN N, gW L kd nu aa, pW g LR so rn ri rl]) := b_perm [0] [1, 2, 3] 4 rfl rfl rfl rfl
                refine b_call0 ⟨rfl, rfl⟩ (va_runV (As := [.int (-3)]) (rest := []) ⟨hx, hb, hml, hown, hts⟩ (m_X0_no l D g H.size adX iX adN adT X (-3) r32 X33 hc33) (cwV 1 hts (lw_V q347 q349 qs2 q76 q350) rfl rfl rfl (by decide +kernel) ⟨Nat.le_of_ble_eq_true rfl, Nat.le_of_ble_eq_true rfl⟩) (b_preV (pp := 0) (q := 0) hW hp33 rfl xW_0 rfl) rfl rfl hl.1 rfl (lv_room (Nat.le_of_ble_eq_true rfl)) dX0_says_146 ⟨Nat.le_of_ble_eq_true rfl, Nat.le_of_ble_eq_true rfl⟩) hW hp33 (fun _ _ H locs hW => ?_)
                have hW : bW D g A s H locs [xW g adX (adN 0) (adT 0) iX X33, vW g adN N, gW L kd nu aa, pW g LR so rn ri rl] := hW
                refine b_toQ hE (fun Q hE => ?_)
                refine W.widen (k := 3) (n := 1010) (by decide) (by decide) ?_
                exact b_iret hx hb hr hlk hE hW (r32, X33) rfl hf rfl dX0_says_149
              · have hf := q_f hf hz30
                obtain ⟨h34, hf⟩ := q_cs hf
                by_cases c35 : gAg (kd z8) = true
                · have hf := q_t hf c35
                  refine b_castG hx hb hown (hts _ q591) hW 2 rfl h34 gAg g_tbA c35 dX0_says_107 ?_
                  obtain ⟨r36, hc36, hf⟩ := q_b1s hf
                  have hp36 : List.Perm [xW g adX (adN 0) (adT 0) iX X, vW g adN N, gW L kd nu aa, pW g LR so rn ri rl] ([xW g adX (adN 0) (adT 0) iX X, vW g adN N, gW L kd nu aa] ++ [pW g LR so rn ri rl]) := b_perm [0, 1, 2] [3] 4 rfl rfl rfl rfl
                  refine b_call0 ⟨rfl, rfl⟩ (va_runV (As := [.ref z8]) (rest := []) ⟨hx, hb, hml, hown, hts⟩ (m_X0_first l D g H.size adX iX adN adT fu X N L kd nu aa z8 r36 hc36) (cwV 1 hts (lw_V q508 q510 qs5 q76 q511) rfl rfl rfl (by decide +kernel) ⟨Nat.le_of_ble_eq_true rfl, Nat.le_of_ble_eq_true rfl⟩) (b_preV (pp := 0) (q := 0) hW hp36 rfl xW_0 rfl) rfl rfl hl.1 rfl (lv_room (Nat.le_of_ble_eq_true rfl)) dX0_says_110 ⟨Nat.le_of_ble_eq_true rfl, Nat.le_of_ble_eq_true rfl⟩) hW hp36 (fun _ _ H locs hW => ?_)
                  have hW : bW D g A s H locs [xW g adX (adN 0) (adT 0) iX X, vW g adN N, gW L kd nu aa, pW g LR so rn ri rl] := hW
                  refine b_toQ hE (fun Q hE => ?_)
                  refine W.widen (k := 3) (n := 1010) (by decide) (by decide) ?_
                  exact b_iret hx hb hr hlk hE hW (r36, X) rfl hf rfl dX0_says_113
                · have hf := q_f hf c35
                  have hno := g_tbA _ (gIn_1 h34).2
                  rw [if_neg c35] at hno
                  refine b_castZ hx hb hst hts hown (hts _ q591) hW (C := gC (kd z8)) (hW.2.2.2.2.2.2.2.2.1 _ hno) (g_xMs _ (gIn_1 h34).2) (by decide) (g_recv hW 2 rfl h34) (hl.1.trans hml.symm) hlk ⟨Nat.le_of_ble_eq_true rfl, Nat.le_of_ble_eq_true rfl⟩ (Nat.le_of_ble_eq_true rfl) ⟨Nat.le_of_ble_eq_true rfl, Nat.le_of_ble_eq_true rfl⟩ dX0_says_107 (fun H q37 ce37 hW hcell hcv hcl => ?_)
                  refine vx_catch hown [⟨44, 95, 141, 167⟩, ⟨96, 104, 141, 167⟩] ⟨105, 113, 141, 167⟩ [⟨114, 122, 141, 167⟩, ⟨123, 131, 141, 167⟩, ⟨132, 140, 141, 167⟩] (htab.trans rfl) (List.forall_mem_cons.mpr ⟨Or.inl (by decide), (List.forall_mem_cons.mpr ⟨Or.inl (by decide), (fun z hz => nomatch hz)⟩)⟩) (by decide) (by decide) (hts _ q493) (b_castC hW.2.2.2.2.2 6 rfl) hcell hcv hcl ?_
                  refine W.cs (cells' := 3) (slots' := 1010) rfl rfl ?_
                  refine lv_astore (lv' := [(4, .ref q37), (3, .ref z8), (0, .ref (adX 0)), (1, .int x1), (2, .int x2)]) hx hb dX0_says_141 hl (by decide) rfl (fun ls hl => ?_)
                  refine lv_aload_n hx hb dX0_says_143 rfl (lv_at hl 2 rfl) ?_
                  refine lv_bipush (v := (-3)) hx hb dX0_says_144 (by decide) ?_
                  obtain ⟨r38, X39, hc39, hf⟩ := q_b2s hf
                  have hp39 : List.Perm [xW g adX (adN 0) (adT 0) iX X, vW g adN N, gW L kd nu aa, pW g LR so rn ri rl] ([xW g adX (adN 0) (adT 0) iX X] ++ [vW g adN N, gW L kd nu aa, pW g LR so rn ri rl]) := b_perm [0] [1, 2, 3] 4 rfl rfl rfl rfl
                  refine b_call0 ⟨rfl, rfl⟩ (va_runV (As := [.int (-3)]) (rest := []) ⟨hx, hb, hml, hown, hts⟩ (m_X0_no l D g H.size adX iX adN adT X (-3) r38 X39 hc39) (cwV 1 hts (lw_V q347 q349 qs2 q76 q350) rfl rfl rfl (by decide +kernel) ⟨Nat.le_of_ble_eq_true rfl, Nat.le_of_ble_eq_true rfl⟩) (b_preV (pp := 0) (q := 0) hW hp39 rfl xW_0 rfl) rfl rfl hl.1 rfl (lv_room (Nat.le_of_ble_eq_true rfl)) dX0_says_146 ⟨Nat.le_of_ble_eq_true rfl, Nat.le_of_ble_eq_true rfl⟩) hW hp39 (fun _ _ H locs hW => ?_)
                  have hW : bW D g A s H locs [xW g adX (adN 0) (adT 0) iX X39, vW g adN N, gW L kd nu aa, pW g LR so rn ri rl] := hW
                  refine b_toQ hE (fun Q hE => ?_)
                  refine W.widen (k := 3) (n := 1010) (by decide) (by decide) ?_
                  exact b_iret hx hb hr hlk hE hW (r38, X39) rfl hf rfl dX0_says_149
            · have hf := q_f hf c29
              by_cases c40 : x2 = 3
              · have hf := q_t hf c40
                refine lv_tableIn (off := 69) (tgt := 114) hx hb dX0_says_45 (by rw [c40]; decide) (by rw [c40]; decide) (by rw [c40]; rfl) (by decide) ?_
                refine lv_aload_n hx hb dX0_says_114 rfl (lv_at hl 1 rfl) ?_
                refine lv_aload_n hx hb dX0_says_115 rfl (lv_at hl 0 rfl) ?_
                by_cases hz41 : z8 ∈ LR
                · have hf := q_t hf hz41
                  refine b_castZ hx hb hst hts hown (hts _ q592) hW (C := rN (so z8)) (r_noO hW.2.2.2.2.2 _) (r_xMs _) (by decide) (r_recv hW 3 rfl hz41 rfl) (hl.1.trans hml.symm) hlk ⟨Nat.le_of_ble_eq_true rfl, Nat.le_of_ble_eq_true rfl⟩ (Nat.le_of_ble_eq_true rfl) ⟨Nat.le_of_ble_eq_true rfl, Nat.le_of_ble_eq_true rfl⟩ dX0_says_116 (fun H q42 ce42 hW hcell hcv hcl => ?_)
                  refine vx_catch hown [⟨44, 95, 141, 167⟩, ⟨96, 104, 141, 167⟩, ⟨105, 113, 141, 167⟩] ⟨114, 122, 141, 167⟩ [⟨123, 131, 141, 167⟩, ⟨132, 140, 141, 167⟩] (htab.trans rfl) (List.forall_mem_cons.mpr ⟨Or.inl (by decide), (List.forall_mem_cons.mpr ⟨Or.inl (by decide), (List.forall_mem_cons.mpr ⟨Or.inl (by decide), (fun z hz => nomatch hz)⟩)⟩)⟩) (by decide) (by decide) (hts _ q493) (b_castC hW.2.2.2.2.2 6 rfl) hcell hcv hcl ?_
                  refine W.cs (cells' := 3) (slots' := 1010) rfl rfl ?_
                  refine lv_astore (lv' := [(4, .ref q42), (3, .ref z8), (0, .ref (adX 0)), (1, .int x1), (2, .int x2)]) hx hb dX0_says_141 hl (by decide) rfl (fun ls hl => ?_)
                  refine lv_aload_n hx hb dX0_says_143 rfl (lv_at hl 2 rfl) ?_
                  refine lv_bipush (v := (-3)) hx hb dX0_says_144 (by decide) ?_
                  obtain ⟨r43, X44, hc44, hf⟩ := q_b2s hf
                  have hp44 : List.Perm [xW g adX (adN 0) (adT 0) iX X, vW g adN N, gW L kd nu aa, pW g LR so rn ri rl] ([xW g adX (adN 0) (adT 0) iX X] ++ [vW g adN N, gW L kd nu aa, pW g LR so rn ri rl]) := b_perm [0] [1, 2, 3] 4 rfl rfl rfl rfl
                  refine b_call0 ⟨rfl, rfl⟩ (va_runV (As := [.int (-3)]) (rest := []) ⟨hx, hb, hml, hown, hts⟩ (m_X0_no l D g H.size adX iX adN adT X (-3) r43 X44 hc44) (cwV 1 hts (lw_V q347 q349 qs2 q76 q350) rfl rfl rfl (by decide +kernel) ⟨Nat.le_of_ble_eq_true rfl, Nat.le_of_ble_eq_true rfl⟩) (b_preV (pp := 0) (q := 0) hW hp44 rfl xW_0 rfl) rfl rfl hl.1 rfl (lv_room (Nat.le_of_ble_eq_true rfl)) dX0_says_146 ⟨Nat.le_of_ble_eq_true rfl, Nat.le_of_ble_eq_true rfl⟩) hW hp44 (fun _ _ H locs hW => ?_)
                  have hW : bW D g A s H locs [xW g adX (adN 0) (adT 0) iX X44, vW g adN N, gW L kd nu aa, pW g LR so rn ri rl] := hW
                  refine b_toQ hE (fun Q hE => ?_)
                  refine W.widen (k := 3) (n := 1010) (by decide) (by decide) ?_
                  exact b_iret hx hb hr hlk hE hW (r43, X44) rfl hf rfl dX0_says_149
                · have hf := q_f hf hz41
                  obtain ⟨h45, hf⟩ := q_cs hf
                  by_cases c46 : gOw (kd z8) = true
                  · have hf := q_t hf c46
                    refine b_castG hx hb hown (hts _ q592) hW 2 rfl h45 gOw g_tbO c46 dX0_says_116 ?_
                    obtain ⟨r47, hc47, hf⟩ := q_b1s hf
                    have hp47 : List.Perm [xW g adX (adN 0) (adT 0) iX X, vW g adN N, gW L kd nu aa, pW g LR so rn ri rl] ([xW g adX (adN 0) (adT 0) iX X, vW g adN N, gW L kd nu aa] ++ [pW g LR so rn ri rl]) := b_perm [0, 1, 2] [3] 4 rfl rfl rfl rfl
                    refine b_call0 ⟨rfl, rfl⟩ (va_runV (As := [.ref z8]) (rest := []) ⟨hx, hb, hml, hown, hts⟩ (m_X0_first l D g H.size adX iX adN adT fu X N L kd nu aa z8 r47 hc47) (cwV 1 hts (lw_V q508 q510 qs5 q76 q511) rfl rfl rfl (by decide +kernel) ⟨Nat.le_of_ble_eq_true rfl, Nat.le_of_ble_eq_true rfl⟩) (b_preV (pp := 0) (q := 0) hW hp47 rfl xW_0 rfl) rfl rfl hl.1 rfl (lv_room (Nat.le_of_ble_eq_true rfl)) dX0_says_119 ⟨Nat.le_of_ble_eq_true rfl, Nat.le_of_ble_eq_true rfl⟩) hW hp47 (fun _ _ H locs hW => ?_)
                    have hW : bW D g A s H locs [xW g adX (adN 0) (adT 0) iX X, vW g adN N, gW L kd nu aa, pW g LR so rn ri rl] := hW
                    refine b_toQ hE (fun Q hE => ?_)
                    refine W.widen (k := 3) (n := 1010) (by decide) (by decide) ?_
                    exact b_iret hx hb hr hlk hE hW (r47, X) rfl hf rfl dX0_says_122
                  · have hf := q_f hf c46
                    have hno := g_tbO _ (gIn_1 h45).2
                    rw [if_neg c46] at hno
                    refine b_castZ hx hb hst hts hown (hts _ q592) hW (C := gC (kd z8)) (hW.2.2.2.2.2.2.2.2.1 _ hno) (g_xMs _ (gIn_1 h45).2) (by decide) (g_recv hW 2 rfl h45) (hl.1.trans hml.symm) hlk ⟨Nat.le_of_ble_eq_true rfl, Nat.le_of_ble_eq_true rfl⟩ (Nat.le_of_ble_eq_true rfl) ⟨Nat.le_of_ble_eq_true rfl, Nat.le_of_ble_eq_true rfl⟩ dX0_says_116 (fun H q48 ce48 hW hcell hcv hcl => ?_)
                    refine vx_catch hown [⟨44, 95, 141, 167⟩, ⟨96, 104, 141, 167⟩, ⟨105, 113, 141, 167⟩] ⟨114, 122, 141, 167⟩ [⟨123, 131, 141, 167⟩, ⟨132, 140, 141, 167⟩] (htab.trans rfl) (List.forall_mem_cons.mpr ⟨Or.inl (by decide), (List.forall_mem_cons.mpr ⟨Or.inl (by decide), (List.forall_mem_cons.mpr ⟨Or.inl (by decide), (fun z hz => nomatch hz)⟩)⟩)⟩) (by decide) (by decide) (hts _ q493) (b_castC hW.2.2.2.2.2 6 rfl) hcell hcv hcl ?_
                    refine W.cs (cells' := 3) (slots' := 1010) rfl rfl ?_
                    refine lv_astore (lv' := [(4, .ref q48), (3, .ref z8), (0, .ref (adX 0)), (1, .int x1), (2, .int x2)]) hx hb dX0_says_141 hl (by decide) rfl (fun ls hl => ?_)
                    refine lv_aload_n hx hb dX0_says_143 rfl (lv_at hl 2 rfl) ?_
                    refine lv_bipush (v := (-3)) hx hb dX0_says_144 (by decide) ?_
                    obtain ⟨r49, X50, hc50, hf⟩ := q_b2s hf
                    have hp50 : List.Perm [xW g adX (adN 0) (adT 0) iX X, vW g adN N, gW L kd nu aa, pW g LR so rn ri rl] ([xW g adX (adN 0) (adT 0) iX X] ++ [vW g adN N, gW L kd nu aa, pW g LR so rn ri rl]) := b_perm [0] [1, 2, 3] 4 rfl rfl rfl rfl
                    refine b_call0 ⟨rfl, rfl⟩ (va_runV (As := [.int (-3)]) (rest := []) ⟨hx, hb, hml, hown, hts⟩ (m_X0_no l D g H.size adX iX adN adT X (-3) r49 X50 hc50) (cwV 1 hts (lw_V q347 q349 qs2 q76 q350) rfl rfl rfl (by decide +kernel) ⟨Nat.le_of_ble_eq_true rfl, Nat.le_of_ble_eq_true rfl⟩) (b_preV (pp := 0) (q := 0) hW hp50 rfl xW_0 rfl) rfl rfl hl.1 rfl (lv_room (Nat.le_of_ble_eq_true rfl)) dX0_says_146 ⟨Nat.le_of_ble_eq_true rfl, Nat.le_of_ble_eq_true rfl⟩) hW hp50 (fun _ _ H locs hW => ?_)
                    have hW : bW D g A s H locs [xW g adX (adN 0) (adT 0) iX X50, vW g adN N, gW L kd nu aa, pW g LR so rn ri rl] := hW
                    refine b_toQ hE (fun Q hE => ?_)
                    refine W.widen (k := 3) (n := 1010) (by decide) (by decide) ?_
                    exact b_iret hx hb hr hlk hE hW (r49, X50) rfl hf rfl dX0_says_149
              · have hf := q_f hf c40
                by_cases c51 : x2 = 4
                · have hf := q_t hf c51
                  refine lv_tableIn (off := 78) (tgt := 123) hx hb dX0_says_45 (by rw [c51]; decide) (by rw [c51]; decide) (by rw [c51]; rfl) (by decide) ?_
                  refine lv_aload_n hx hb dX0_says_123 rfl (lv_at hl 1 rfl) ?_
                  refine lv_aload_n hx hb dX0_says_124 rfl (lv_at hl 0 rfl) ?_
                  by_cases hz52 : z8 ∈ LR
                  · have hf := q_t hf hz52
                    refine b_castZ hx hb hst hts hown (hts _ q593) hW (C := rN (so z8)) (r_noLe hW.2.2.2.2.2 _) (r_xMs _) (by decide) (r_recv hW 3 rfl hz52 rfl) (hl.1.trans hml.symm) hlk ⟨Nat.le_of_ble_eq_true rfl, Nat.le_of_ble_eq_true rfl⟩ (Nat.le_of_ble_eq_true rfl) ⟨Nat.le_of_ble_eq_true rfl, Nat.le_of_ble_eq_true rfl⟩ dX0_says_125 (fun H q53 ce53 hW hcell hcv hcl => ?_)
                    refine vx_catch hown [⟨44, 95, 141, 167⟩, ⟨96, 104, 141, 167⟩, ⟨105, 113, 141, 167⟩, ⟨114, 122, 141, 167⟩] ⟨123, 131, 141, 167⟩ [⟨132, 140, 141, 167⟩] (htab.trans rfl) (List.forall_mem_cons.mpr ⟨Or.inl (by decide), (List.forall_mem_cons.mpr ⟨Or.inl (by decide), (List.forall_mem_cons.mpr ⟨Or.inl (by decide), (List.forall_mem_cons.mpr ⟨Or.inl (by decide), (fun z hz => nomatch hz)⟩)⟩)⟩)⟩) (by decide) (by decide) (hts _ q493) (b_castC hW.2.2.2.2.2 6 rfl) hcell hcv hcl ?_
                    refine W.cs (cells' := 3) (slots' := 1010) rfl rfl ?_
                    refine lv_astore (lv' := [(4, .ref q53), (3, .ref z8), (0, .ref (adX 0)), (1, .int x1), (2, .int x2)]) hx hb dX0_says_141 hl (by decide) rfl (fun ls hl => ?_)
                    refine lv_aload_n hx hb dX0_says_143 rfl (lv_at hl 2 rfl) ?_
                    refine lv_bipush (v := (-3)) hx hb dX0_says_144 (by decide) ?_
                    obtain ⟨r54, X55, hc55, hf⟩ := q_b2s hf
                    have hp55 : List.Perm [xW g adX (adN 0) (adT 0) iX X, vW g adN N, gW L kd nu aa, pW g LR so rn ri rl] ([xW g adX (adN 0) (adT 0) iX X] ++ [vW g adN N, gW L kd nu aa, pW g LR so rn ri rl]) := b_perm [0] [1, 2, 3] 4 rfl rfl rfl rfl
                    refine b_call0 ⟨rfl, rfl⟩ (va_runV (As := [.int (-3)]) (rest := []) ⟨hx, hb, hml, hown, hts⟩ (m_X0_no l D g H.size adX iX adN adT X (-3) r54 X55 hc55) (cwV 1 hts (lw_V q347 q349 qs2 q76 q350) rfl rfl rfl (by decide +kernel) ⟨Nat.le_of_ble_eq_true rfl, Nat.le_of_ble_eq_true rfl⟩) (b_preV (pp := 0) (q := 0) hW hp55 rfl xW_0 rfl) rfl rfl hl.1 rfl (lv_room (Nat.le_of_ble_eq_true rfl)) dX0_says_146 ⟨Nat.le_of_ble_eq_true rfl, Nat.le_of_ble_eq_true rfl⟩) hW hp55 (fun _ _ H locs hW => ?_)
                    have hW : bW D g A s H locs [xW g adX (adN 0) (adT 0) iX X55, vW g adN N, gW L kd nu aa, pW g LR so rn ri rl] := hW
                    refine b_toQ hE (fun Q hE => ?_)
                    refine W.widen (k := 3) (n := 1010) (by decide) (by decide) ?_
                    exact b_iret hx hb hr hlk hE hW (r54, X55) rfl hf rfl dX0_says_149
                  · have hf := q_f hf hz52
                    obtain ⟨h56, hf⟩ := q_cs hf
                    by_cases c57 : gLe (kd z8) = true
                    · have hf := q_t hf c57
                      refine b_castG hx hb hown (hts _ q593) hW 2 rfl h56 gLe g_tbLe c57 dX0_says_125 ?_
                      obtain ⟨r58, hc58, hf⟩ := q_b1s hf
                      have hp58 : List.Perm [xW g adX (adN 0) (adT 0) iX X, vW g adN N, gW L kd nu aa, pW g LR so rn ri rl] ([xW g adX (adN 0) (adT 0) iX X, vW g adN N, gW L kd nu aa] ++ [pW g LR so rn ri rl]) := b_perm [0, 1, 2] [3] 4 rfl rfl rfl rfl
                      refine b_call0 ⟨rfl, rfl⟩ (va_runV (As := [.ref z8]) (rest := []) ⟨hx, hb, hml, hown, hts⟩ (m_X0_first l D g H.size adX iX adN adT fu X N L kd nu aa z8 r58 hc58) (cwV 1 hts (lw_V q508 q510 qs5 q76 q511) rfl rfl rfl (by decide +kernel) ⟨Nat.le_of_ble_eq_true rfl, Nat.le_of_ble_eq_true rfl⟩) (b_preV (pp := 0) (q := 0) hW hp58 rfl xW_0 rfl) rfl rfl hl.1 rfl (lv_room (Nat.le_of_ble_eq_true rfl)) dX0_says_128 ⟨Nat.le_of_ble_eq_true rfl, Nat.le_of_ble_eq_true rfl⟩) hW hp58 (fun _ _ H locs hW => ?_)
                      have hW : bW D g A s H locs [xW g adX (adN 0) (adT 0) iX X, vW g adN N, gW L kd nu aa, pW g LR so rn ri rl] := hW
                      refine b_toQ hE (fun Q hE => ?_)
                      refine W.widen (k := 3) (n := 1010) (by decide) (by decide) ?_
                      exact b_iret hx hb hr hlk hE hW (r58, X) rfl hf rfl dX0_says_131
                    · have hf := q_f hf c57
                      have hno := g_tbLe _ (gIn_1 h56).2
                      rw [if_neg c57] at hno
                      refine b_castZ hx hb hst hts hown (hts _ q593) hW (C := gC (kd z8)) (hW.2.2.2.2.2.2.2.2.1 _ hno) (g_xMs _ (gIn_1 h56).2) (by decide) (g_recv hW 2 rfl h56) (hl.1.trans hml.symm) hlk ⟨Nat.le_of_ble_eq_true rfl, Nat.le_of_ble_eq_true rfl⟩ (Nat.le_of_ble_eq_true rfl) ⟨Nat.le_of_ble_eq_true rfl, Nat.le_of_ble_eq_true rfl⟩ dX0_says_125 (fun H q59 ce59 hW hcell hcv hcl => ?_)
                      refine vx_catch hown [⟨44, 95, 141, 167⟩, ⟨96, 104, 141, 167⟩, ⟨105, 113, 141, 167⟩, ⟨114, 122, 141, 167⟩] ⟨123, 131, 141, 167⟩ [⟨132, 140, 141, 167⟩] (htab.trans rfl) (List.forall_mem_cons.mpr ⟨Or.inl (by decide), (List.forall_mem_cons.mpr ⟨Or.inl (by decide), (List.forall_mem_cons.mpr ⟨Or.inl (by decide), (List.forall_mem_cons.mpr ⟨Or.inl (by decide), (fun z hz => nomatch hz)⟩)⟩)⟩)⟩) (by decide) (by decide) (hts _ q493) (b_castC hW.2.2.2.2.2 6 rfl) hcell hcv hcl ?_
                      refine W.cs (cells' := 3) (slots' := 1010) rfl rfl ?_
                      refine lv_astore (lv' := [(4, .ref q59), (3, .ref z8), (0, .ref (adX 0)), (1, .int x1), (2, .int x2)]) hx hb dX0_says_141 hl (by decide) rfl (fun ls hl => ?_)
                      refine lv_aload_n hx hb dX0_says_143 rfl (lv_at hl 2 rfl) ?_
                      refine lv_bipush (v := (-3)) hx hb dX0_says_144 (by decide) ?_
                      obtain ⟨r60, X61, hc61, hf⟩ := q_b2s hf
                      have hp61 : List.Perm [xW g adX (adN 0) (adT 0) iX X, vW g adN N, gW L kd nu aa, pW g LR so rn ri rl] ([xW g adX (adN 0) (adT 0) iX X] ++ [vW g adN N, gW L kd nu aa, pW g LR so rn ri rl]) := b_perm [0] [1, 2, 3] 4 rfl rfl rfl rfl
                      refine b_call0 ⟨rfl, rfl⟩ (va_runV (As := [.int (-3)]) (rest := []) ⟨hx, hb, hml, hown, hts⟩ (m_X0_no l D g H.size adX iX adN adT X (-3) r60 X61 hc61) (cwV 1 hts (lw_V q347 q349 qs2 q76 q350) rfl rfl rfl (by decide +kernel) ⟨Nat.le_of_ble_eq_true rfl, Nat.le_of_ble_eq_true rfl⟩) (b_preV (pp := 0) (q := 0) hW hp61 rfl xW_0 rfl) rfl rfl hl.1 rfl (lv_room (Nat.le_of_ble_eq_true rfl)) dX0_says_146 ⟨Nat.le_of_ble_eq_true rfl, Nat.le_of_ble_eq_true rfl⟩) hW hp61 (fun _ _ H locs hW => ?_)
                      have hW : bW D g A s H locs [xW g adX (adN 0) (adT 0) iX X61, vW g adN N, gW L kd nu aa, pW g LR so rn ri rl] := hW
                      refine b_toQ hE (fun Q hE => ?_)
                      refine W.widen (k := 3) (n := 1010) (by decide) (by decide) ?_
                      exact b_iret hx hb hr hlk hE hW (r60, X61) rfl hf rfl dX0_says_149
                · have hf := q_f hf c51
                  refine lv_tableOut (tgt := 132) hx hb dX0_says_45 (by have := lv_neT c11 (a := 0) (by decide); have := lv_neT c18 (a := 1) (by decide); have := lv_neT c29 (a := 2) (by decide); have := lv_neT c40 (a := 3) (by decide); have := lv_neT c51 (a := 4) (by decide); omega) (by decide) ?_
                  refine lv_aload_n hx hb dX0_says_132 rfl (lv_at hl 1 rfl) ?_
                  refine lv_aload_n hx hb dX0_says_133 rfl (lv_at hl 0 rfl) ?_
                  by_cases hz62 : z8 ∈ LR
                  · have hf := q_t hf hz62
                    refine b_castZ hx hb hst hts hown (hts _ q594) hW (C := rN (so z8)) (r_noLa hW.2.2.2.2.2 _) (r_xMs _) (by decide) (r_recv hW 3 rfl hz62 rfl) (hl.1.trans hml.symm) hlk ⟨Nat.le_of_ble_eq_true rfl, Nat.le_of_ble_eq_true rfl⟩ (Nat.le_of_ble_eq_true rfl) ⟨Nat.le_of_ble_eq_true rfl, Nat.le_of_ble_eq_true rfl⟩ dX0_says_134 (fun H q63 ce63 hW hcell hcv hcl => ?_)
                    refine vx_catch hown [⟨44, 95, 141, 167⟩, ⟨96, 104, 141, 167⟩, ⟨105, 113, 141, 167⟩, ⟨114, 122, 141, 167⟩, ⟨123, 131, 141, 167⟩] ⟨132, 140, 141, 167⟩ [] (htab.trans rfl) (List.forall_mem_cons.mpr ⟨Or.inl (by decide), (List.forall_mem_cons.mpr ⟨Or.inl (by decide), (List.forall_mem_cons.mpr ⟨Or.inl (by decide), (List.forall_mem_cons.mpr ⟨Or.inl (by decide), (List.forall_mem_cons.mpr ⟨Or.inl (by decide), (fun z hz => nomatch hz)⟩)⟩)⟩)⟩)⟩) (by decide) (by decide) (hts _ q493) (b_castC hW.2.2.2.2.2 6 rfl) hcell hcv hcl ?_
                    refine W.cs (cells' := 3) (slots' := 1010) rfl rfl ?_
                    refine lv_astore (lv' := [(4, .ref q63), (3, .ref z8), (0, .ref (adX 0)), (1, .int x1), (2, .int x2)]) hx hb dX0_says_141 hl (by decide) rfl (fun ls hl => ?_)
                    refine lv_aload_n hx hb dX0_says_143 rfl (lv_at hl 2 rfl) ?_
                    refine lv_bipush (v := (-3)) hx hb dX0_says_144 (by decide) ?_
                    obtain ⟨r64, X65, hc65, hf⟩ := q_b2s hf
                    have hp65 : List.Perm [xW g adX (adN 0) (adT 0) iX X, vW g adN N, gW L kd nu aa, pW g LR so rn ri rl] ([xW g adX (adN 0) (adT 0) iX X] ++ [vW g adN N, gW L kd nu aa, pW g LR so rn ri rl]) := b_perm [0] [1, 2, 3] 4 rfl rfl rfl rfl
                    refine b_call0 ⟨rfl, rfl⟩ (va_runV (As := [.int (-3)]) (rest := []) ⟨hx, hb, hml, hown, hts⟩ (m_X0_no l D g H.size adX iX adN adT X (-3) r64 X65 hc65) (cwV 1 hts (lw_V q347 q349 qs2 q76 q350) rfl rfl rfl (by decide +kernel) ⟨Nat.le_of_ble_eq_true rfl, Nat.le_of_ble_eq_true rfl⟩) (b_preV (pp := 0) (q := 0) hW hp65 rfl xW_0 rfl) rfl rfl hl.1 rfl (lv_room (Nat.le_of_ble_eq_true rfl)) dX0_says_146 ⟨Nat.le_of_ble_eq_true rfl, Nat.le_of_ble_eq_true rfl⟩) hW hp65 (fun _ _ H locs hW => ?_)
                    have hW : bW D g A s H locs [xW g adX (adN 0) (adT 0) iX X65, vW g adN N, gW L kd nu aa, pW g LR so rn ri rl] := hW
                    refine b_toQ hE (fun Q hE => ?_)
                    refine W.widen (k := 3) (n := 1010) (by decide) (by decide) ?_
                    exact b_iret hx hb hr hlk hE hW (r64, X65) rfl hf rfl dX0_says_149
                  · have hf := q_f hf hz62
                    obtain ⟨h66, hf⟩ := q_cs hf
                    by_cases c67 : gLa (kd z8) = true
                    · have hf := q_t hf c67
                      refine b_castG hx hb hown (hts _ q594) hW 2 rfl h66 gLa g_tbLa c67 dX0_says_134 ?_
                      obtain ⟨r68, hc68, hf⟩ := q_b1s hf
                      have hp68 : List.Perm [xW g adX (adN 0) (adT 0) iX X, vW g adN N, gW L kd nu aa, pW g LR so rn ri rl] ([xW g adX (adN 0) (adT 0) iX X, vW g adN N, gW L kd nu aa] ++ [pW g LR so rn ri rl]) := b_perm [0, 1, 2] [3] 4 rfl rfl rfl rfl
                      refine b_call0 ⟨rfl, rfl⟩ (va_runV (As := [.ref z8]) (rest := []) ⟨hx, hb, hml, hown, hts⟩ (m_X0_first l D g H.size adX iX adN adT fu X N L kd nu aa z8 r68 hc68) (cwV 1 hts (lw_V q508 q510 qs5 q76 q511) rfl rfl rfl (by decide +kernel) ⟨Nat.le_of_ble_eq_true rfl, Nat.le_of_ble_eq_true rfl⟩) (b_preV (pp := 0) (q := 0) hW hp68 rfl xW_0 rfl) rfl rfl hl.1 rfl (lv_room (Nat.le_of_ble_eq_true rfl)) dX0_says_137 ⟨Nat.le_of_ble_eq_true rfl, Nat.le_of_ble_eq_true rfl⟩) hW hp68 (fun _ _ H locs hW => ?_)
                      have hW : bW D g A s H locs [xW g adX (adN 0) (adT 0) iX X, vW g adN N, gW L kd nu aa, pW g LR so rn ri rl] := hW
                      refine b_toQ hE (fun Q hE => ?_)
                      refine W.widen (k := 3) (n := 1010) (by decide) (by decide) ?_
                      exact b_iret hx hb hr hlk hE hW (r68, X) rfl hf rfl dX0_says_140
                    · have hf := q_f hf c67
                      have hno := g_tbLa _ (gIn_1 h66).2
                      rw [if_neg c67] at hno
                      refine b_castZ hx hb hst hts hown (hts _ q594) hW (C := gC (kd z8)) (hW.2.2.2.2.2.2.2.2.1 _ hno) (g_xMs _ (gIn_1 h66).2) (by decide) (g_recv hW 2 rfl h66) (hl.1.trans hml.symm) hlk ⟨Nat.le_of_ble_eq_true rfl, Nat.le_of_ble_eq_true rfl⟩ (Nat.le_of_ble_eq_true rfl) ⟨Nat.le_of_ble_eq_true rfl, Nat.le_of_ble_eq_true rfl⟩ dX0_says_134 (fun H q69 ce69 hW hcell hcv hcl => ?_)
                      refine vx_catch hown [⟨44, 95, 141, 167⟩, ⟨96, 104, 141, 167⟩, ⟨105, 113, 141, 167⟩, ⟨114, 122, 141, 167⟩, ⟨123, 131, 141, 167⟩] ⟨132, 140, 141, 167⟩ [] (htab.trans rfl) (List.forall_mem_cons.mpr ⟨Or.inl (by decide), (List.forall_mem_cons.mpr ⟨Or.inl (by decide), (List.forall_mem_cons.mpr ⟨Or.inl (by decide), (List.forall_mem_cons.mpr ⟨Or.inl (by decide), (List.forall_mem_cons.mpr ⟨Or.inl (by decide), (fun z hz => nomatch hz)⟩)⟩)⟩)⟩)⟩) (by decide) (by decide) (hts _ q493) (b_castC hW.2.2.2.2.2 6 rfl) hcell hcv hcl ?_
                      refine W.cs (cells' := 3) (slots' := 1010) rfl rfl ?_
                      refine lv_astore (lv' := [(4, .ref q69), (3, .ref z8), (0, .ref (adX 0)), (1, .int x1), (2, .int x2)]) hx hb dX0_says_141 hl (by decide) rfl (fun ls hl => ?_)
                      refine lv_aload_n hx hb dX0_says_143 rfl (lv_at hl 2 rfl) ?_
                      refine lv_bipush (v := (-3)) hx hb dX0_says_144 (by decide) ?_
                      obtain ⟨r70, X71, hc71, hf⟩ := q_b2s hf
                      have hp71 : List.Perm [xW g adX (adN 0) (adT 0) iX X, vW g adN N, gW L kd nu aa, pW g LR so rn ri rl] ([xW g adX (adN 0) (adT 0) iX X] ++ [vW g adN N, gW L kd nu aa, pW g LR so rn ri rl]) := b_perm [0] [1, 2, 3] 4 rfl rfl rfl rfl
                      refine b_call0 ⟨rfl, rfl⟩ (va_runV (As := [.int (-3)]) (rest := []) ⟨hx, hb, hml, hown, hts⟩ (m_X0_no l D g H.size adX iX adN adT X (-3) r70 X71 hc71) (cwV 1 hts (lw_V q347 q349 qs2 q76 q350) rfl rfl rfl (by decide +kernel) ⟨Nat.le_of_ble_eq_true rfl, Nat.le_of_ble_eq_true rfl⟩) (b_preV (pp := 0) (q := 0) hW hp71 rfl xW_0 rfl) rfl rfl hl.1 rfl (lv_room (Nat.le_of_ble_eq_true rfl)) dX0_says_146 ⟨Nat.le_of_ble_eq_true rfl, Nat.le_of_ble_eq_true rfl⟩) hW hp71 (fun _ _ H locs hW => ?_)
                      have hW : bW D g A s H locs [xW g adX (adN 0) (adT 0) iX X71, vW g adN N, gW L kd nu aa, pW g LR so rn ri rl] := hW
                      refine b_toQ hE (fun Q hE => ?_)
                      refine W.widen (k := 3) (n := 1010) (by decide) (by decide) ?_
                      exact b_iret hx hb hr hlk hE hW (r70, X71) rfl hf rfl dX0_says_149
    · have hf := q_t hf c6
      refine lv_aload_n hx hb dX0_says_16 rfl (lv_at hl 0 rfl) ?_
      refine lv_bipush (v := (-2)) hx hb dX0_says_17 (by decide) ?_
      obtain ⟨r72, X73, hc73, hf⟩ := q_b2s hf
      have hp73 : List.Perm [xW g adX (adN 0) (adT 0) iX X, vW g adN N, gW L kd nu aa, pW g LR so rn ri rl] ([xW g adX (adN 0) (adT 0) iX X] ++ [vW g adN N, gW L kd nu aa, pW g LR so rn ri rl]) := b_perm [0] [1, 2, 3] 4 rfl rfl rfl rfl
      refine b_call0 ⟨rfl, rfl⟩ (va_runV (As := [.int (-2)]) (rest := []) ⟨hx, hb, hml, hown, hts⟩ (m_X0_no l D g H.size adX iX adN adT X (-2) r72 X73 hc73) (cwV 1 hts (lw_V q347 q349 qs2 q76 q350) rfl rfl rfl (by decide +kernel) ⟨Nat.le_of_ble_eq_true rfl, Nat.le_of_ble_eq_true rfl⟩) (b_preV (pp := 0) (q := 0) hW hp73 rfl xW_0 rfl) rfl rfl hl.1 rfl (lv_room (Nat.le_of_ble_eq_true rfl)) dX0_says_19 ⟨Nat.le_of_ble_eq_true rfl, Nat.le_of_ble_eq_true rfl⟩) hW hp73 (fun _ _ H locs hW => ?_)
      have hW : bW D g A s H locs [xW g adX (adN 0) (adT 0) iX X73, vW g adN N, gW L kd nu aa, pW g LR so rn ri rl] := hW
      refine b_toQ hE (fun Q hE => ?_)
      refine W.widen (k := 3) (n := 1010) (by decide) (by decide) ?_
      exact b_iret hx hb hr hlk hE hW (r72, X73) rfl hf rfl dX0_says_22
