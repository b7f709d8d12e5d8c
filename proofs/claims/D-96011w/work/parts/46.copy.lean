/-! COPY(): printed by gen/copyg.py -/
set_option maxRecDepth 100000
def f_X0_copy (X : BC) (L : List Nat) (kd : Nat → Nat) (nu : Nat → Int32) (aa : Nat → Int32) (LR : List Nat) (so : Nat → Nat) (rn : Nat → Nat) (ri : Nat → Nat → Int32) (rl : Nat → Nat → Int64) (x1 : Int32) (x2 : Int32) (x3 : Int32) (x4 : Int32) (x5 : Int32) (post : Int32 → BC → List Nat → (Nat → Nat) → (Nat → Nat) → (Nat → Nat → Int32) → (Nat → Nat → Int64) → Prop) : Prop :=
 q_b1 (f_X0_isShelf x1) fun (r1 : Int32) =>
 (if r1 = 0 then
 q_b2 (f_X0_no X (-2)) fun (r3 : Int32) (X4 : BC) =>
 post r3 X4 LR so rn ri rl
 else
 q_b1 (f_X0_isShelf x2) fun (r5 : Int32) =>
 (if r5 = 0 then
 q_b2 (f_X0_no X (-2)) fun (r50 : Int32) (X51 : BC) =>
 post r50 X51 LR so rn ri rl
 else
 q_ck (inB x1 8) (q_op (X.2.1 1 (ix x1)) (q_ck (inB x2 8) (q_op (X.2.1 1 (ix x2)) (q_b2 (f_X0_no X (-4)) fun (r12 : Int32) (X13 : BC) =>
 post r12 X13 LR so rn ri rl) fun (z10 : Nat) =>
 (if z10 ∈ LR then
 q_b2 (f_X0_no X (-4)) fun (r16 : Int32) (X17 : BC) =>
 post r16 X17 LR so rn ri rl
 else
 q_ck (gIn L kd z10) (q_b2 (f_X0_no X (-3)) fun (r19 : Int32) (X20 : BC) =>
 post r19 X20 LR so rn ri rl)))) fun (z8 : Nat) =>
 q_ck (inB x2 8) (q_op (X.2.1 1 (ix x2)) ((if z8 ∈ LR then
 q_b2 (f_X0_no X (-4)) fun (r25 : Int32) (X26 : BC) =>
 post r25 X26 LR so rn ri rl
 else
 q_ck (gIn L kd z8) (q_b2 (f_X0_no X (-3)) fun (r28 : Int32) (X29 : BC) =>
 post r28 X29 LR so rn ri rl))) fun (z22 : Nat) =>
 (if z8 ∈ LR then
 (if z22 ∈ LR then
 (if rTy (so z8) = rTy (so z22) then
 (if o_cpy x3 x4 x5 (rn z8) (rn z22) = true then
 q_ck (cFit (so z8) (ri z8) (rn z8)) (q_lt (cpI so ri z8 z22 x3 x4 x5) fun (ri35 : Nat → Nat → Int32) =>
 q_lt (cpL so rl z8 z22 x3 x4 x5) fun (rl36 : Nat → Nat → Int64) =>
 post x5 X LR so rn ri35 rl36)
 else
 q_ck (decide (rn z8 < 2147483648) && decide (rn z22 < 2147483648)) (q_b2 (f_X0_no X (-2)) fun (r39 : Int32) (X40 : BC) =>
 post r39 X40 LR so rn ri rl))
 else
 q_b2 (f_X0_no X (-3)) fun (r42 : Int32) (X43 : BC) =>
 post r42 X43 LR so rn ri rl)
 else
 q_ck (gIn L kd z22) (q_b2 (f_X0_no X (-3)) fun (r45 : Int32) (X46 : BC) =>
 post r45 X46 LR so rn ri rl))
 else
 q_ck (gIn L kd z8) (q_b2 (f_X0_no X (-3)) fun (r48 : Int32) (X49 : BC) =>
 post r48 X49 LR so rn ri rl))))))
abbrev rm_X0_copy : Room := { frames := 9, cells := 3, slots := 350, locals := 10300 }
set_option maxHeartbeats 4000000 in
set_option maxRecDepth 100000 in
theorem m_X0_copy (l : Launch) (hst : l.stackTraces = false) (D : va_G) (g : Nat → ClassId) (sz : Nat) (adX : Nat → Nat) (iX : Option Nat) (adN : Nat → Nat) (adT : Nat → Nat) (X : BC) (L : List Nat) (kd : Nat → Nat) (nu : Nat → Int32) (aa : Nat → Int32) (LR : List Nat) (so : Nat → Nat) (rn : Nat → Nat) (ri : Nat → Nat → Int32) (rl : Nat → Nat → Int64) (x1 : Int32) (x2 : Int32) (x3 : Int32) (x4 : Int32) (x5 : Int32) (post : Int32 → BC → List Nat → (Nat → Nat) → (Nat → Nat) → (Nat → Nat → Int32) → (Nat → Nat → Int64) → Prop) (hf : f_X0_copy X L kd nu aa LR so rn ri rl x1 x2 x3 x4 x5 post) : bxMet (S := Int32 × BC × List Nat × (Nat → Nat) × (Nat → Nat) × (Nat → Nat → Int32) × (Nat → Nat → Int64)) (SX := Unit) l yX0_copy (wsW_ yX0_copy cX0_copy 9 (some .int) [(66, 80, 81, 130), (66, 80, 90, 132), (66, 80, 99, 134)]) rm_X0_copy D g sz [.ref (adX 0), .int x1, .int x2, .int x3, .int x4, .int x5] [xW g adX (adN 0) (adT 0) iX X, gW L kd nu aa, pW g LR so rn ri rl] (fun u => post u.1 u.2.1 u.2.2.1 u.2.2.2.1 u.2.2.2.2.1 u.2.2.2.2.2.1 u.2.2.2.2.2.2) (fun u => some (.int u.1)) (fun u => [xW g adX (adN 0) (adT 0) iX (u.2.1), gW L kd nu aa, pW g u.2.2.1 u.2.2.2.1 u.2.2.2.2.1 u.2.2.2.2.2.1 u.2.2.2.2.2.2]) (fun _ _ _ => False) (fun _ => [xW g adX (adN 0) (adT 0) iX X, gW L kd nu aa, pW g LR so rn ri rl]) := by
  refine b_metH (by decide) (Nat.le_of_ble_eq_true rfl) ?_
  intro p e s m args below meth c A Q ls hx hb hml hr hlk hown hname hts htab hE hl hW
  revert hW; generalize s.heap = H; intro hW
  have hl : lv_has ls 9 [(0, .ref (adX 0)), (1, .int x1), (2, .int x2), (3, .int x3), (4, .int x4), (5, .int x5)] := hl
  rw [f_X0_copy] at hf
  refine lv_iload_n hx hb dX0_copy_0 rfl (lv_at hl 1 rfl) ?_
  obtain ⟨r1, hc1, hf⟩ := q_b1s hf
  have hp1 : List.Perm [xW g adX (adN 0) (adT 0) iX X, gW L kd nu aa, pW g LR so rn ri rl] ([] ++ [xW g adX (adN 0) (adT 0) iX X, gW L kd nu aa, pW g LR so rn ri rl]) := b_perm [] [0, 1, 2] 3 rfl rfl rfl rfl
  refine b_call0 ⟨rfl, rfl⟩ (va_runS (As := [.int x1]) (rest := []) ⟨hx, hb, hml, hown, hts⟩ (m_X0_isShelf l D g H.size x1 r1 hc1) (va_cwS 1 hts (lw_S q341 q342 q76 q343) rfl rfl rfl (by decide +kernel) ⟨Nat.le_of_ble_eq_true rfl, Nat.le_of_ble_eq_true rfl⟩) (b_preS hW hp1) rfl rfl hl.1 rfl (lv_room (Nat.le_of_ble_eq_true rfl)) dX0_copy_1 ⟨Nat.le_of_ble_eq_true rfl, Nat.le_of_ble_eq_true rfl⟩) hW hp1 (fun _ _ H locs hW => ?_)
  have hW : bW D g A s H locs [xW g adX (adN 0) (adT 0) iX X, gW L kd nu aa, pW g LR so rn ri rl] := hW
  refine lv_if_eq (tgt := 14) hx hb dX0_copy_4 (by decide) (fun c2 => ?_) (fun c2 => ?_)
  · have hf := q_t hf c2
    refine lv_aload_n hx hb dX0_copy_14 rfl (lv_at hl 0 rfl) ?_
    refine lv_bipush (v := (-2)) hx hb dX0_copy_15 (by decide) ?_
    obtain ⟨r3, X4, hc4, hf⟩ := q_b2s hf
    have hp4 : List.Perm [xW g adX (adN 0) (adT 0) iX X, gW L kd nu aa, pW g LR so rn ri rl] ([xW g adX (adN 0) (adT 0) iX X] ++ [gW L kd nu aa, pW g LR so rn ri rl]) := b_perm [0] [1, 2] 3 rfl rfl rfl rfl
    refine b_call0 ⟨rfl, rfl⟩ (va_runV (As := [.int (-2)]) (rest := []) ⟨hx, hb, hml, hown, hts⟩ (m_X0_no l D g H.size adX iX adN adT X (-2) r3 X4 hc4) (cwV 1 hts (lw_V q347 q349 qs2 q76 q350) rfl rfl rfl (by decide +kernel) ⟨Nat.le_of_ble_eq_true rfl, Nat.le_of_ble_eq_true rfl⟩) (b_preV (pp := 0) (q := 0) hW hp4 rfl xW_0 rfl) rfl rfl hl.1 rfl (lv_room (Nat.le_of_ble_eq_true rfl)) dX0_copy_17 ⟨Nat.le_of_ble_eq_true rfl, Nat.le_of_ble_eq_true rfl⟩) hW hp4 (fun _ _ H locs hW => ?_)
    have hW : bW D g A s H locs [xW g adX (adN 0) (adT 0) iX X4, gW L kd nu aa, pW g LR so rn ri rl] := hW
    refine b_toQ hE (fun Q hE => ?_)
    refine W.widen (k := 3) (n := 350) (by decide) (by decide) ?_
    exact b_iret hx hb hr hlk hE hW (r3, X4, LR, so, rn, ri, rl) rfl hf rfl dX0_copy_20
  · have hf := q_f hf c2
    refine lv_iload_n hx hb dX0_copy_7 rfl (lv_at hl 2 rfl) ?_
    obtain ⟨r5, hc5, hf⟩ := q_b1s hf
    have hp5 : List.Perm [xW g adX (adN 0) (adT 0) iX X, gW L kd nu aa, pW g LR so rn ri rl] ([] ++ [xW g adX (adN 0) (adT 0) iX X, gW L kd nu aa, pW g LR so rn ri rl]) := b_perm [] [0, 1, 2] 3 rfl rfl rfl rfl
    refine b_call0 ⟨rfl, rfl⟩ (va_runS (As := [.int x2]) (rest := []) ⟨hx, hb, hml, hown, hts⟩ (m_X0_isShelf l D g H.size x2 r5 hc5) (va_cwS 1 hts (lw_S q341 q342 q76 q343) rfl rfl rfl (by decide +kernel) ⟨Nat.le_of_ble_eq_true rfl, Nat.le_of_ble_eq_true rfl⟩) (b_preS hW hp5) rfl rfl hl.1 rfl (lv_room (Nat.le_of_ble_eq_true rfl)) dX0_copy_8 ⟨Nat.le_of_ble_eq_true rfl, Nat.le_of_ble_eq_true rfl⟩) hW hp5 (fun _ _ H locs hW => ?_)
    have hW : bW D g A s H locs [xW g adX (adN 0) (adT 0) iX X, gW L kd nu aa, pW g LR so rn ri rl] := hW
    refine lv_if_ne (tgt := 21) hx hb dX0_copy_11 (by decide) (fun c6 => ?_) (fun c6 => ?_)
    · have hf := q_f hf c6
      refine lv_aload_n hx hb dX0_copy_21 rfl (lv_at hl 0 rfl) ?_
      refine b_get hx hb hts in_X0 hown hW 0 0 0 3 rfl xW_0 rfl (by decide) ⟨rfl, rfl, rfl⟩ (hts _ q230) xW_g3 dX0_copy_22 ?_
      refine lv_iload_n hx hb dX0_copy_25 rfl (lv_at hl 1 rfl) ?_
      obtain ⟨h7, hf⟩ := q_cs hf
      refine b_aald hx hb hW 0 1 6 rfl xW_1 rfl h7 dX0_copy_26 ?_
      refine W.eq (g2 := F0 m 27 ls [.ref (adX (2 + ix x1))]) rfl ?_
      refine b_get hx hb hts in_X2 hown hW 0 (2 + ix x1) 2 0 rfl (xW_r2 (inB_lt h7)) rfl (by decide) ⟨rfl, rfl, rfl⟩ (hts _ q222) rfl dX0_copy_27 ?_
      refine b_split (fun hrf => ?_) (fun z8 hrf => ?_)
      · have hf := q_opn hf hrf
        refine lv_astoreN (lv' := [(6, .null), (0, .ref (adX 0)), (1, .int x1), (2, .int x2), (3, .int x3), (4, .int x4), (5, .int x5)]) hx hb dX0_copy_30 hl (by decide) rfl (fun ls hl => ?_)
        refine lv_aload_n hx hb dX0_copy_32 rfl (lv_at hl 1 rfl) ?_
        refine b_get hx hb hts in_X0 hown hW 0 0 0 3 rfl xW_0 rfl (by decide) ⟨rfl, rfl, rfl⟩ (hts _ q230) xW_g3 dX0_copy_33 ?_
        refine lv_iload_n hx hb dX0_copy_36 rfl (lv_at hl 3 rfl) ?_
        obtain ⟨h9, hf⟩ := q_cs hf
        refine b_aald hx hb hW 0 1 6 rfl xW_1 rfl h9 dX0_copy_37 ?_
        refine W.eq (g2 := F0 m 38 ls [.ref (adX (2 + ix x2))]) rfl ?_
        refine b_get hx hb hts in_X2 hown hW 0 (2 + ix x2) 2 0 rfl (xW_r2 (inB_lt h9)) rfl (by decide) ⟨rfl, rfl, rfl⟩ (hts _ q222) rfl dX0_copy_38 ?_
        refine b_split (fun hrf => ?_) (fun z10 hrf => ?_)
        · have hf := q_opn hf hrf
          refine lv_astoreN (lv' := [(7, .null), (6, .null), (0, .ref (adX 0)), (1, .int x1), (2, .int x2), (3, .int x3), (4, .int x4), (5, .int x5)]) hx hb dX0_copy_41 hl (by decide) rfl (fun ls hl => ?_)
          refine lv_aloadN hx hb dX0_copy_43 (lv_at hl 1 rfl) ?_
          refine lv_instN hx hb dX0_copy_45 ?_
          refine lv_if_ne (tgt := 59) hx hb dX0_copy_48 (by decide) (fun hc => absurd hc (by decide)) (fun hc => ?_)
          refine lv_aloadN hx hb dX0_copy_51 (lv_at hl 0 rfl) ?_
          refine lv_instN hx hb dX0_copy_53 ?_
          refine lv_if_eq (tgt := 66) hx hb dX0_copy_56 (by decide) (fun hc => ?_) (fun hc => absurd hc (by decide))
          refine lv_aloadN hx hb dX0_copy_66 (lv_at hl 1 rfl) ?_
          refine lv_iload_n hx hb dX0_copy_68 rfl (lv_at hl 5 rfl) ?_
          refine lv_aloadN hx hb dX0_copy_69 (lv_at hl 0 rfl) ?_
          refine lv_iload hx hb dX0_copy_71 (lv_at hl 6 rfl) ?_
          refine lv_iload hx hb dX0_copy_73 (lv_at hl 7 rfl) ?_
          refine b_cpyN hx hb hst hts hown (hts _ q467) (hts _ q469) (hts _ q468) (hts _ q90) hW (hl.1.trans hml.symm) (Or.inl ⟨rfl, rfl⟩) ⟨(Nat.le_of_ble_eq_true rfl), (Nat.le_of_ble_eq_true rfl)⟩ (Nat.le_of_ble_eq_true rfl) ⟨Nat.le_of_ble_eq_true rfl, Nat.le_of_ble_eq_true rfl⟩ dX0_copy_75 (fun H q11 ce11 hW hcell hcv hcl => ?_)
          refine vx_catch hown [] ⟨66, 80, 81, 130⟩ [⟨66, 80, 90, 132⟩, ⟨66, 80, 99, 134⟩] (htab.trans rfl) (fun z hz => nomatch hz) (by decide) (by decide) (hts _ q427) (b_castC hW.2.2.2.2.2 3 rfl) hcell hcv hcl ?_
          refine W.cs (cells' := 1) (slots' := 8) rfl rfl ?_
          refine lv_astore (lv' := [(8, .ref q11), (7, .null), (6, .null), (0, .ref (adX 0)), (1, .int x1), (2, .int x2), (3, .int x3), (4, .int x4), (5, .int x5)]) hx hb dX0_copy_81 hl (by decide) rfl (fun ls hl => ?_)
          refine lv_aload_n hx hb dX0_copy_83 rfl (lv_at hl 3 rfl) ?_
          refine lv_bipush (v := (-4)) hx hb dX0_copy_84 (by decide) ?_
          obtain ⟨r12, X13, hc13, hf⟩ := q_b2s hf
          have hp13 : List.Perm [xW g adX (adN 0) (adT 0) iX X, gW L kd nu aa, pW g LR so rn ri rl] ([xW g adX (adN 0) (adT 0) iX X] ++ [gW L kd nu aa, pW g LR so rn ri rl]) := b_perm [0] [1, 2] 3 rfl rfl rfl rfl
          refine b_call0 ⟨rfl, rfl⟩ (va_runV (As := [.int (-4)]) (rest := []) ⟨hx, hb, hml, hown, hts⟩ (m_X0_no l D g H.size adX iX adN adT X (-4) r12 X13 hc13) (cwV 1 hts (lw_V q347 q349 qs2 q76 q350) rfl rfl rfl (by decide +kernel) ⟨Nat.le_of_ble_eq_true rfl, Nat.le_of_ble_eq_true rfl⟩) (b_preV (pp := 0) (q := 0) hW hp13 rfl xW_0 rfl) rfl rfl hl.1 rfl (lv_room (Nat.le_of_ble_eq_true rfl)) dX0_copy_86 ⟨Nat.le_of_ble_eq_true rfl, Nat.le_of_ble_eq_true rfl⟩) hW hp13 (fun _ _ H locs hW => ?_)
          have hW : bW D g A s H locs [xW g adX (adN 0) (adT 0) iX X13, gW L kd nu aa, pW g LR so rn ri rl] := hW
          refine b_toQ hE (fun Q hE => ?_)
          refine W.widen (k := 3) (n := 350) (by decide) (by decide) ?_
          exact b_iret hx hb hr hlk hE hW (r12, X13, LR, so, rn, ri, rl) rfl hf rfl dX0_copy_89
        · have hf := q_ops hf hrf
          refine lv_astore (lv' := [(7, .ref z10), (6, .null), (0, .ref (adX 0)), (1, .int x1), (2, .int x2), (3, .int x3), (4, .int x4), (5, .int x5)]) hx hb dX0_copy_41 hl (by decide) rfl (fun ls hl => ?_)
          refine lv_aloadN hx hb dX0_copy_43 (lv_at hl 1 rfl) ?_
          refine lv_instN hx hb dX0_copy_45 ?_
          refine lv_if_ne (tgt := 59) hx hb dX0_copy_48 (by decide) (fun hc => absurd hc (by decide)) (fun hc => ?_)
          refine lv_aload hx hb dX0_copy_51 (lv_at hl 0 rfl) ?_
          by_cases hz14 : z10 ∈ LR
          · have hf := q_t hf hz14
            refine b_rinN hx hb hown hW 2 rfl hz14 rfl (hts _ q385) (r_noG hW.2.2.2.2.2 _) dX0_copy_53 ?_
            refine lv_if_eq (tgt := 66) hx hb dX0_copy_56 (by decide) (fun hc => ?_) (fun hc => absurd hc (by decide))
            refine lv_aloadN hx hb dX0_copy_66 (lv_at hl 1 rfl) ?_
            refine lv_iload_n hx hb dX0_copy_68 rfl (lv_at hl 5 rfl) ?_
            refine lv_aload hx hb dX0_copy_69 (lv_at hl 0 rfl) ?_
            refine lv_iload hx hb dX0_copy_71 (lv_at hl 6 rfl) ?_
            refine lv_iload hx hb dX0_copy_73 (lv_at hl 7 rfl) ?_
            refine b_cpyN hx hb hst hts hown (hts _ q467) (hts _ q469) (hts _ q468) (hts _ q90) hW (hl.1.trans hml.symm) (Or.inl ⟨rfl, rfl⟩) ⟨(Nat.le_of_ble_eq_true rfl), (Nat.le_of_ble_eq_true rfl)⟩ (Nat.le_of_ble_eq_true rfl) ⟨Nat.le_of_ble_eq_true rfl, Nat.le_of_ble_eq_true rfl⟩ dX0_copy_75 (fun H q15 ce15 hW hcell hcv hcl => ?_)
            refine vx_catch hown [] ⟨66, 80, 81, 130⟩ [⟨66, 80, 90, 132⟩, ⟨66, 80, 99, 134⟩] (htab.trans rfl) (fun z hz => nomatch hz) (by decide) (by decide) (hts _ q427) (b_castC hW.2.2.2.2.2 3 rfl) hcell hcv hcl ?_
            refine W.cs (cells' := 1) (slots' := 8) rfl rfl ?_
            refine lv_astore (lv' := [(8, .ref q15), (7, .ref z10), (6, .null), (0, .ref (adX 0)), (1, .int x1), (2, .int x2), (3, .int x3), (4, .int x4), (5, .int x5)]) hx hb dX0_copy_81 hl (by decide) rfl (fun ls hl => ?_)
            refine lv_aload_n hx hb dX0_copy_83 rfl (lv_at hl 3 rfl) ?_
            refine lv_bipush (v := (-4)) hx hb dX0_copy_84 (by decide) ?_
            obtain ⟨r16, X17, hc17, hf⟩ := q_b2s hf
            have hp17 : List.Perm [xW g adX (adN 0) (adT 0) iX X, gW L kd nu aa, pW g LR so rn ri rl] ([xW g adX (adN 0) (adT 0) iX X] ++ [gW L kd nu aa, pW g LR so rn ri rl]) := b_perm [0] [1, 2] 3 rfl rfl rfl rfl
            refine b_call0 ⟨rfl, rfl⟩ (va_runV (As := [.int (-4)]) (rest := []) ⟨hx, hb, hml, hown, hts⟩ (m_X0_no l D g H.size adX iX adN adT X (-4) r16 X17 hc17) (cwV 1 hts (lw_V q347 q349 qs2 q76 q350) rfl rfl rfl (by decide +kernel) ⟨Nat.le_of_ble_eq_true rfl, Nat.le_of_ble_eq_true rfl⟩) (b_preV (pp := 0) (q := 0) hW hp17 rfl xW_0 rfl) rfl rfl hl.1 rfl (lv_room (Nat.le_of_ble_eq_true rfl)) dX0_copy_86 ⟨Nat.le_of_ble_eq_true rfl, Nat.le_of_ble_eq_true rfl⟩) hW hp17 (fun _ _ H locs hW => ?_)
            have hW : bW D g A s H locs [xW g adX (adN 0) (adT 0) iX X17, gW L kd nu aa, pW g LR so rn ri rl] := hW
            refine b_toQ hE (fun Q hE => ?_)
            refine W.widen (k := 3) (n := 350) (by decide) (by decide) ?_
            exact b_iret hx hb hr hlk hE hW (r16, X17, LR, so, rn, ri, rl) rfl hf rfl dX0_copy_89
          · have hf := q_f hf hz14
            obtain ⟨h18, hf⟩ := q_cs hf
            refine b_instG hx hb hown (hts _ q385) hW 1 rfl h18 (fun _ => true) g_tbG dX0_copy_53 ?_
            refine b_topi (y := 1) rfl ?_
            refine lv_if_eq (tgt := 66) hx hb dX0_copy_56 (by decide) (fun hc => absurd hc (by decide)) (fun hc => ?_)
            refine lv_aload_n hx hb dX0_copy_59 rfl (lv_at hl 2 rfl) ?_
            refine lv_bipush (v := (-3)) hx hb dX0_copy_60 (by decide) ?_
            obtain ⟨r19, X20, hc20, hf⟩ := q_b2s hf
            have hp20 : List.Perm [xW g adX (adN 0) (adT 0) iX X, gW L kd nu aa, pW g LR so rn ri rl] ([xW g adX (adN 0) (adT 0) iX X] ++ [gW L kd nu aa, pW g LR so rn ri rl]) := b_perm [0] [1, 2] 3 rfl rfl rfl rfl
            refine b_call0 ⟨rfl, rfl⟩ (va_runV (As := [.int (-3)]) (rest := []) ⟨hx, hb, hml, hown, hts⟩ (m_X0_no l D g H.size adX iX adN adT X (-3) r19 X20 hc20) (cwV 1 hts (lw_V q347 q349 qs2 q76 q350) rfl rfl rfl (by decide +kernel) ⟨Nat.le_of_ble_eq_true rfl, Nat.le_of_ble_eq_true rfl⟩) (b_preV (pp := 0) (q := 0) hW hp20 rfl xW_0 rfl) rfl rfl hl.1 rfl (lv_room (Nat.le_of_ble_eq_true rfl)) dX0_copy_62 ⟨Nat.le_of_ble_eq_true rfl, Nat.le_of_ble_eq_true rfl⟩) hW hp20 (fun _ _ H locs hW => ?_)
            have hW : bW D g A s H locs [xW g adX (adN 0) (adT 0) iX X20, gW L kd nu aa, pW g LR so rn ri rl] := hW
            refine b_toQ hE (fun Q hE => ?_)
            refine W.widen (k := 3) (n := 350) (by decide) (by decide) ?_
            exact b_iret hx hb hr hlk hE hW (r19, X20, LR, so, rn, ri, rl) rfl hf rfl dX0_copy_65
      · have hf := q_ops hf hrf
        refine lv_astore (lv' := [(6, .ref z8), (0, .ref (adX 0)), (1, .int x1), (2, .int x2), (3, .int x3), (4, .int x4), (5, .int x5)]) hx hb dX0_copy_30 hl (by decide) rfl (fun ls hl => ?_)
        refine lv_aload_n hx hb dX0_copy_32 rfl (lv_at hl 1 rfl) ?_
        refine b_get hx hb hts in_X0 hown hW 0 0 0 3 rfl xW_0 rfl (by decide) ⟨rfl, rfl, rfl⟩ (hts _ q230) xW_g3 dX0_copy_33 ?_
        refine lv_iload_n hx hb dX0_copy_36 rfl (lv_at hl 3 rfl) ?_
        obtain ⟨h21, hf⟩ := q_cs hf
        refine b_aald hx hb hW 0 1 6 rfl xW_1 rfl h21 dX0_copy_37 ?_
        refine W.eq (g2 := F0 m 38 ls [.ref (adX (2 + ix x2))]) rfl ?_
        refine b_get hx hb hts in_X2 hown hW 0 (2 + ix x2) 2 0 rfl (xW_r2 (inB_lt h21)) rfl (by decide) ⟨rfl, rfl, rfl⟩ (hts _ q222) rfl dX0_copy_38 ?_
        refine b_split (fun hrf => ?_) (fun z22 hrf => ?_)
        · have hf := q_opn hf hrf
          refine lv_astoreN (lv' := [(7, .null), (6, .ref z8), (0, .ref (adX 0)), (1, .int x1), (2, .int x2), (3, .int x3), (4, .int x4), (5, .int x5)]) hx hb dX0_copy_41 hl (by decide) rfl (fun ls hl => ?_)
          refine lv_aload hx hb dX0_copy_43 (lv_at hl 1 rfl) ?_
          by_cases hz23 : z8 ∈ LR
          · have hf := q_t hf hz23
            refine b_rinN hx hb hown hW 2 rfl hz23 rfl (hts _ q385) (r_noG hW.2.2.2.2.2 _) dX0_copy_45 ?_
            refine lv_if_ne (tgt := 59) hx hb dX0_copy_48 (by decide) (fun hc => absurd hc (by decide)) (fun hc => ?_)
            refine lv_aloadN hx hb dX0_copy_51 (lv_at hl 0 rfl) ?_
            refine lv_instN hx hb dX0_copy_53 ?_
            refine lv_if_eq (tgt := 66) hx hb dX0_copy_56 (by decide) (fun hc => ?_) (fun hc => absurd hc (by decide))
            refine lv_aload hx hb dX0_copy_66 (lv_at hl 1 rfl) ?_
            refine lv_iload_n hx hb dX0_copy_68 rfl (lv_at hl 5 rfl) ?_
            refine lv_aloadN hx hb dX0_copy_69 (lv_at hl 0 rfl) ?_
            refine lv_iload hx hb dX0_copy_71 (lv_at hl 6 rfl) ?_
            refine lv_iload hx hb dX0_copy_73 (lv_at hl 7 rfl) ?_
            refine b_cpyN hx hb hst hts hown (hts _ q467) (hts _ q469) (hts _ q468) (hts _ q90) hW (hl.1.trans hml.symm) (Or.inr ⟨⟨_, rfl⟩, rfl⟩) ⟨(Nat.le_of_ble_eq_true rfl), (Nat.le_of_ble_eq_true rfl)⟩ (Nat.le_of_ble_eq_true rfl) ⟨Nat.le_of_ble_eq_true rfl, Nat.le_of_ble_eq_true rfl⟩ dX0_copy_75 (fun H q24 ce24 hW hcell hcv hcl => ?_)
            refine vx_catch hown [] ⟨66, 80, 81, 130⟩ [⟨66, 80, 90, 132⟩, ⟨66, 80, 99, 134⟩] (htab.trans rfl) (fun z hz => nomatch hz) (by decide) (by decide) (hts _ q427) (b_castC hW.2.2.2.2.2 3 rfl) hcell hcv hcl ?_
            refine W.cs (cells' := 1) (slots' := 8) rfl rfl ?_
            refine lv_astore (lv' := [(8, .ref q24), (7, .null), (6, .ref z8), (0, .ref (adX 0)), (1, .int x1), (2, .int x2), (3, .int x3), (4, .int x4), (5, .int x5)]) hx hb dX0_copy_81 hl (by decide) rfl (fun ls hl => ?_)
            refine lv_aload_n hx hb dX0_copy_83 rfl (lv_at hl 3 rfl) ?_
            refine lv_bipush (v := (-4)) hx hb dX0_copy_84 (by decide) ?_
            obtain ⟨r25, X26, hc26, hf⟩ := q_b2s hf
            have hp26 : List.Perm [xW g adX (adN 0) (adT 0) iX X, gW L kd nu aa, pW g LR so rn ri rl] ([xW g adX (adN 0) (adT 0) iX X] ++ [gW L kd nu aa, pW g LR so rn ri rl]) := b_perm [0] [1, 2] 3 rfl rfl rfl rfl
            refine b_call0 ⟨rfl, rfl⟩ (va_runV (As := [.int (-4)]) (rest := []) ⟨hx, hb, hml, hown, hts⟩ (m_X0_no l D g H.size adX iX adN adT X (-4) r25 X26 hc26) (cwV 1 hts (lw_V q347 q349 qs2 q76 q350) rfl rfl rfl (by decide +kernel) ⟨Nat.le_of_ble_eq_true rfl, Nat.le_of_ble_eq_true rfl⟩) (b_preV (pp := 0) (q := 0) hW hp26 rfl xW_0 rfl) rfl rfl hl.1 rfl (lv_room (Nat.le_of_ble_eq_true rfl)) dX0_copy_86 ⟨Nat.le_of_ble_eq_true rfl, Nat.le_of_ble_eq_true rfl⟩) hW hp26 (fun _ _ H locs hW => ?_)
            have hW : bW D g A s H locs [xW g adX (adN 0) (adT 0) iX X26, gW L kd nu aa, pW g LR so rn ri rl] := hW
            refine b_toQ hE (fun Q hE => ?_)
            refine W.widen (k := 3) (n := 350) (by decide) (by decide) ?_
            exact b_iret hx hb hr hlk hE hW (r25, X26, LR, so, rn, ri, rl) rfl hf rfl dX0_copy_89
          · have hf := q_f hf hz23
            obtain ⟨h27, hf⟩ := q_cs hf
            refine b_instG hx hb hown (hts _ q385) hW 1 rfl h27 (fun _ => true) g_tbG dX0_copy_45 ?_
            refine b_topi (y := 1) rfl ?_
            refine lv_if_ne (tgt := 59) hx hb dX0_copy_48 (by decide) (fun hc => ?_) (fun hc => absurd hc (by decide))
            refine lv_aload_n hx hb dX0_copy_59 rfl (lv_at hl 2 rfl) ?_
            refine lv_bipush (v := (-3)) hx hb dX0_copy_60 (by decide) ?_
            obtain ⟨r28, X29, hc29, hf⟩ := q_b2s hf
            have hp29 : List.Perm [xW g adX (adN 0) (adT 0) iX X, gW L kd nu aa, pW g LR so rn ri rl] ([xW g adX (adN 0) (adT 0) iX X] ++ [gW L kd nu aa, pW g LR so rn ri rl]) := b_perm [0] [1, 2] 3 rfl rfl rfl rfl
            refine b_call0 ⟨rfl, rfl⟩ (va_runV (As := [.int (-3)]) (rest := []) ⟨hx, hb, hml, hown, hts⟩ (m_X0_no l D g H.size adX iX adN adT X (-3) r28 X29 hc29) (cwV 1 hts (lw_V q347 q349 qs2 q76 q350) rfl rfl rfl (by decide +kernel) ⟨Nat.le_of_ble_eq_true rfl, Nat.le_of_ble_eq_true rfl⟩) (b_preV (pp := 0) (q := 0) hW hp29 rfl xW_0 rfl) rfl rfl hl.1 rfl (lv_room (Nat.le_of_ble_eq_true rfl)) dX0_copy_62 ⟨Nat.le_of_ble_eq_true rfl, Nat.le_of_ble_eq_true rfl⟩) hW hp29 (fun _ _ H locs hW => ?_)
            have hW : bW D g A s H locs [xW g adX (adN 0) (adT 0) iX X29, gW L kd nu aa, pW g LR so rn ri rl] := hW
            refine b_toQ hE (fun Q hE => ?_)
            refine W.widen (k := 3) (n := 350) (by decide) (by decide) ?_
            exact b_iret hx hb hr hlk hE hW (r28, X29, LR, so, rn, ri, rl) rfl hf rfl dX0_copy_65
        · have hf := q_ops hf hrf
          refine lv_astore (lv' := [(7, .ref z22), (6, .ref z8), (0, .ref (adX 0)), (1, .int x1), (2, .int x2), (3, .int x3), (4, .int x4), (5, .int x5)]) hx hb dX0_copy_41 hl (by decide) rfl (fun ls hl => ?_)
          refine lv_aload hx hb dX0_copy_43 (lv_at hl 1 rfl) ?_
          by_cases hz30 : z8 ∈ LR
          · have hf := q_t hf hz30
            refine b_rinN hx hb hown hW 2 rfl hz30 rfl (hts _ q385) (r_noG hW.2.2.2.2.2 _) dX0_copy_45 ?_
            refine lv_if_ne (tgt := 59) hx hb dX0_copy_48 (by decide) (fun hc => absurd hc (by decide)) (fun hc => ?_)
            refine lv_aload hx hb dX0_copy_51 (lv_at hl 0 rfl) ?_
            by_cases hz31 : z22 ∈ LR
            · have hf := q_t hf hz31
              refine b_rinN hx hb hown hW 2 rfl hz31 rfl (hts _ q385) (r_noG hW.2.2.2.2.2 _) dX0_copy_53 ?_
              refine lv_if_eq (tgt := 66) hx hb dX0_copy_56 (by decide) (fun hc => ?_) (fun hc => absurd hc (by decide))
              refine lv_aload hx hb dX0_copy_66 (lv_at hl 1 rfl) ?_
              refine lv_iload_n hx hb dX0_copy_68 rfl (lv_at hl 5 rfl) ?_
              refine lv_aload hx hb dX0_copy_69 (lv_at hl 0 rfl) ?_
              refine lv_iload hx hb dX0_copy_71 (lv_at hl 6 rfl) ?_
              refine lv_iload hx hb dX0_copy_73 (lv_at hl 7 rfl) ?_
              by_cases c32 : rTy (so z8) = rTy (so z22)
              · have hf := q_t hf c32
                by_cases c33 : o_cpy x3 x4 x5 (rn z8) (rn z22) = true
                · have hf := q_t hf c33
                  obtain ⟨hft34, hf⟩ := q_cs hf
                  obtain ⟨ri35, eri35, hf⟩ := q_ls hf
                  obtain ⟨rl36, erl36, hf⟩ := q_ls hf
                  refine b_cpyR hx hb (by rw [hml]; exact hl.1.symm) hown (hts _ q467) (hts _ q469) (hts _ q468) (hts _ q90) hW 2 rfl hz30 hz31 c32 c33 hft34 eri35.symm erl36.symm (Bs' := [xW g adX (adN 0) (adT 0) iX X, gW L kd nu aa, pW g LR so rn ri35 rl36]) rfl (Nat.le_of_ble_eq_true rfl) (Nat.le_of_ble_eq_true rfl) dX0_copy_75 (fun H locs hW => ?_)
                  refine lv_iload hx hb dX0_copy_78 (lv_at hl 7 rfl) ?_
                  refine b_toQ hE (fun Q hE => ?_)
                  refine W.widen (k := 3) (n := 350) (by decide) (by decide) ?_
                  exact b_iret hx hb hr hlk hE hW (x5, X, LR, so, rn, ri35, rl36) rfl hf rfl dX0_copy_80
                · have hf := q_f hf c33
                  obtain ⟨hn37, hf⟩ := q_cs hf
                  simp only [Bool.and_eq_true, decide_eq_true_eq] at hn37
                  refine b_cpyA hx hb hst hts hown (hts _ q467) (hts _ q469) (hts _ q468) (hts _ q90) hW 2 rfl hz30 hz31 c32 hn37.1 hn37.2 (hl.1.trans hml.symm) c33 ⟨(Nat.le_of_ble_eq_true rfl), (Nat.le_of_ble_eq_true rfl)⟩ (Nat.le_of_ble_eq_true rfl) ⟨Nat.le_of_ble_eq_true rfl, Nat.le_of_ble_eq_true rfl⟩ dX0_copy_75 (fun H q38 ce38 hW hcell hcv hcl => ?_)
                  refine vx_catch hown [⟨66, 80, 81, 130⟩, ⟨66, 80, 90, 132⟩] ⟨66, 80, 99, 134⟩ [] (htab.trans rfl) (List.forall_mem_cons.mpr ⟨Or.inr ⟨by decide, "java/lang/NullPointerException", hts _ q427, b_castN hW.2.2.2.2.2 121 rfl⟩, (List.forall_mem_cons.mpr ⟨Or.inr ⟨by decide, "java/lang/ArrayStoreException", hts _ q452, b_castN hW.2.2.2.2.2 118 rfl⟩, (fun z hz => nomatch hz)⟩)⟩) (by decide) (by decide) (hts _ q466) (b_castC hW.2.2.2.2.2 16 rfl) hcell hcv hcl ?_
                  refine W.cs (cells' := 3) (slots' := 350) rfl rfl ?_
                  refine lv_astore (lv' := [(8, .ref q38), (7, .ref z22), (6, .ref z8), (0, .ref (adX 0)), (1, .int x1), (2, .int x2), (3, .int x3), (4, .int x4), (5, .int x5)]) hx hb dX0_copy_99 hl (by decide) rfl (fun ls hl => ?_)
                  refine lv_aload_n hx hb dX0_copy_101 rfl (lv_at hl 3 rfl) ?_
                  refine lv_bipush (v := (-2)) hx hb dX0_copy_102 (by decide) ?_
                  obtain ⟨r39, X40, hc40, hf⟩ := q_b2s hf
                  have hp40 : List.Perm [xW g adX (adN 0) (adT 0) iX X, gW L kd nu aa, pW g LR so rn ri rl] ([xW g adX (adN 0) (adT 0) iX X] ++ [gW L kd nu aa, pW g LR so rn ri rl]) := b_perm [0] [1, 2] 3 rfl rfl rfl rfl
                  refine b_call0 ⟨rfl, rfl⟩ (va_runV (As := [.int (-2)]) (rest := []) ⟨hx, hb, hml, hown, hts⟩ (m_X0_no l D g H.size adX iX adN adT X (-2) r39 X40 hc40) (cwV 1 hts (lw_V q347 q349 qs2 q76 q350) rfl rfl rfl (by decide +kernel) ⟨Nat.le_of_ble_eq_true rfl, Nat.le_of_ble_eq_true rfl⟩) (b_preV (pp := 0) (q := 0) hW hp40 rfl xW_0 rfl) rfl rfl hl.1 rfl (lv_room (Nat.le_of_ble_eq_true rfl)) dX0_copy_104 ⟨Nat.le_of_ble_eq_true rfl, Nat.le_of_ble_eq_true rfl⟩) hW hp40 (fun _ _ H locs hW => ?_)
                  have hW : bW D g A s H locs [xW g adX (adN 0) (adT 0) iX X40, gW L kd nu aa, pW g LR so rn ri rl] := hW
                  refine b_toQ hE (fun Q hE => ?_)
                  refine W.widen (k := 3) (n := 350) (by decide) (by decide) ?_
                  exact b_iret hx hb hr hlk hE hW (r39, X40, LR, so, rn, ri, rl) rfl hf rfl dX0_copy_107
              · have hf := q_f hf c32
                refine b_cpyS hx hb hst hts hown (hts _ q467) (hts _ q469) (hts _ q468) (hts _ q90) hW 2 rfl hz30 hz31 c32 (hl.1.trans hml.symm) ⟨(Nat.le_of_ble_eq_true rfl), (Nat.le_of_ble_eq_true rfl)⟩ (Nat.le_of_ble_eq_true rfl) ⟨Nat.le_of_ble_eq_true rfl, Nat.le_of_ble_eq_true rfl⟩ dX0_copy_75 (fun H q41 ce41 hW hcell hcv hcl => ?_)
                refine vx_catch hown [⟨66, 80, 81, 130⟩] ⟨66, 80, 90, 132⟩ [⟨66, 80, 99, 134⟩] (htab.trans rfl) (List.forall_mem_cons.mpr ⟨Or.inr ⟨by decide, "java/lang/NullPointerException", hts _ q427, b_castN hW.2.2.2.2.2 128 rfl⟩, (fun z hz => nomatch hz)⟩) (by decide) (by decide) (hts _ q452) (b_castC hW.2.2.2.2.2 5 rfl) hcell hcv hcl ?_
                refine W.cs (cells' := 3) (slots' := 350) rfl rfl ?_
                refine lv_astore (lv' := [(8, .ref q41), (7, .ref z22), (6, .ref z8), (0, .ref (adX 0)), (1, .int x1), (2, .int x2), (3, .int x3), (4, .int x4), (5, .int x5)]) hx hb dX0_copy_90 hl (by decide) rfl (fun ls hl => ?_)
                refine lv_aload_n hx hb dX0_copy_92 rfl (lv_at hl 3 rfl) ?_
                refine lv_bipush (v := (-3)) hx hb dX0_copy_93 (by decide) ?_
                obtain ⟨r42, X43, hc43, hf⟩ := q_b2s hf
                have hp43 : List.Perm [xW g adX (adN 0) (adT 0) iX X, gW L kd nu aa, pW g LR so rn ri rl] ([xW g adX (adN 0) (adT 0) iX X] ++ [gW L kd nu aa, pW g LR so rn ri rl]) := b_perm [0] [1, 2] 3 rfl rfl rfl rfl
                refine b_call0 ⟨rfl, rfl⟩ (va_runV (As := [.int (-3)]) (rest := []) ⟨hx, hb, hml, hown, hts⟩ (m_X0_no l D g H.size adX iX adN adT X (-3) r42 X43 hc43) (cwV 1 hts (lw_V q347 q349 qs2 q76 q350) rfl rfl rfl (by decide +kernel) ⟨Nat.le_of_ble_eq_true rfl, Nat.le_of_ble_eq_true rfl⟩) (b_preV (pp := 0) (q := 0) hW hp43 rfl xW_0 rfl) rfl rfl hl.1 rfl (lv_room (Nat.le_of_ble_eq_true rfl)) dX0_copy_95 ⟨Nat.le_of_ble_eq_true rfl, Nat.le_of_ble_eq_true rfl⟩) hW hp43 (fun _ _ H locs hW => ?_)
                have hW : bW D g A s H locs [xW g adX (adN 0) (adT 0) iX X43, gW L kd nu aa, pW g LR so rn ri rl] := hW
                refine b_toQ hE (fun Q hE => ?_)
                refine W.widen (k := 3) (n := 350) (by decide) (by decide) ?_
                exact b_iret hx hb hr hlk hE hW (r42, X43, LR, so, rn, ri, rl) rfl hf rfl dX0_copy_98
            · have hf := q_f hf hz31
              obtain ⟨h44, hf⟩ := q_cs hf
              refine b_instG hx hb hown (hts _ q385) hW 1 rfl h44 (fun _ => true) g_tbG dX0_copy_53 ?_
              refine b_topi (y := 1) rfl ?_
              refine lv_if_eq (tgt := 66) hx hb dX0_copy_56 (by decide) (fun hc => absurd hc (by decide)) (fun hc => ?_)
              refine lv_aload_n hx hb dX0_copy_59 rfl (lv_at hl 2 rfl) ?_
              refine lv_bipush (v := (-3)) hx hb dX0_copy_60 (by decide) ?_
              obtain ⟨r45, X46, hc46, hf⟩ := q_b2s hf
              have hp46 : List.Perm [xW g adX (adN 0) (adT 0) iX X, gW L kd nu aa, pW g LR so rn ri rl] ([xW g adX (adN 0) (adT 0) iX X] ++ [gW L kd nu aa, pW g LR so rn ri rl]) := b_perm [0] [1, 2] 3 rfl rfl rfl rfl
              refine b_call0 ⟨rfl, rfl⟩ (va_runV (As := [.int (-3)]) (rest := []) ⟨hx, hb, hml, hown, hts⟩ (m_X0_no l D g H.size adX iX adN adT X (-3) r45 X46 hc46) (cwV 1 hts (lw_V q347 q349 qs2 q76 q350) rfl rfl rfl (by decide +kernel) ⟨Nat.le_of_ble_eq_true rfl, Nat.le_of_ble_eq_true rfl⟩) (b_preV (pp := 0) (q := 0) hW hp46 rfl xW_0 rfl) rfl rfl hl.1 rfl (lv_room (Nat.le_of_ble_eq_true rfl)) dX0_copy_62 ⟨Nat.le_of_ble_eq_true rfl, Nat.le_of_ble_eq_true rfl⟩) hW hp46 (fun _ _ H locs hW => ?_)
              have hW : bW D g A s H locs [xW g adX (adN 0) (adT 0) iX X46, gW L kd nu aa, pW g LR so rn ri rl] := hW
              refine b_toQ hE (fun Q hE => ?_)
              refine W.widen (k := 3) (n := 350) (by decide) (by decide) ?_
              exact b_iret hx hb hr hlk hE hW (r45, X46, LR, so, rn, ri, rl) rfl hf rfl dX0_copy_65
          · have hf := q_f hf hz30
            obtain ⟨h47, hf⟩ := q_cs hf
            refine b_instG hx hb hown (hts _ q385) hW 1 rfl h47 (fun _ => true) g_tbG dX0_copy_45 ?_
            refine b_topi (y := 1) rfl ?_
            refine lv_if_ne (tgt := 59) hx hb dX0_copy_48 (by decide) (fun hc => ?_) (fun hc => absurd hc (by decide))
            refine lv_aload_n hx hb dX0_copy_59 rfl (lv_at hl 2 rfl) ?_
            refine lv_bipush (v := (-3)) hx hb dX0_copy_60 (by decide) ?_
            obtain ⟨r48, X49, hc49, hf⟩ := q_b2s hf
            have hp49 : List.Perm [xW g adX (adN 0) (adT 0) iX X, gW L kd nu aa, pW g LR so rn ri rl] ([xW g adX (adN 0) (adT 0) iX X] ++ [gW L kd nu aa, pW g LR so rn ri rl]) := b_perm [0] [1, 2] 3 rfl rfl rfl rfl
            refine b_call0 ⟨rfl, rfl⟩ (va_runV (As := [.int (-3)]) (rest := []) ⟨hx, hb, hml, hown, hts⟩ (m_X0_no l D g H.size adX iX adN adT X (-3) r48 X49 hc49) (cwV 1 hts (lw_V q347 q349 qs2 q76 q350) rfl rfl rfl (by decide +kernel) ⟨Nat.le_of_ble_eq_true rfl, Nat.le_of_ble_eq_true rfl⟩) (b_preV (pp := 0) (q := 0) hW hp49 rfl xW_0 rfl) rfl rfl hl.1 rfl (lv_room (Nat.le_of_ble_eq_true rfl)) dX0_copy_62 ⟨Nat.le_of_ble_eq_true rfl, Nat.le_of_ble_eq_true rfl⟩) hW hp49 (fun _ _ H locs hW => ?_)
            have hW : bW D g A s H locs [xW g adX (adN 0) (adT 0) iX X49, gW L kd nu aa, pW g LR so rn ri rl] := hW
            refine b_toQ hE (fun Q hE => ?_)
            refine W.widen (k := 3) (n := 350) (by decide) (by decide) ?_
            exact b_iret hx hb hr hlk hE hW (r48, X49, LR, so, rn, ri, rl) rfl hf rfl dX0_copy_65
    · have hf := q_t hf c6
      refine lv_aload_n hx hb dX0_copy_14 rfl (lv_at hl 0 rfl) ?_
      refine lv_bipush (v := (-2)) hx hb dX0_copy_15 (by decide) ?_
      obtain ⟨r50, X51, hc51, hf⟩ := q_b2s hf
      have hp51 : List.Perm [xW g adX (adN 0) (adT 0) iX X, gW L kd nu aa, pW g LR so rn ri rl] ([xW g adX (adN 0) (adT 0) iX X] ++ [gW L kd nu aa, pW g LR so rn ri rl]) := b_perm [0] [1, 2] 3 rfl rfl rfl rfl
      refine b_call0 ⟨rfl, rfl⟩ (va_runV (As := [.int (-2)]) (rest := []) ⟨hx, hb, hml, hown, hts⟩ (m_X0_no l D g H.size adX iX adN adT X (-2) r50 X51 hc51) (cwV 1 hts (lw_V q347 q349 qs2 q76 q350) rfl rfl rfl (by decide +kernel) ⟨Nat.le_of_ble_eq_true rfl, Nat.le_of_ble_eq_true rfl⟩) (b_preV (pp := 0) (q := 0) hW hp51 rfl xW_0 rfl) rfl rfl hl.1 rfl (lv_room (Nat.le_of_ble_eq_true rfl)) dX0_copy_17 ⟨Nat.le_of_ble_eq_true rfl, Nat.le_of_ble_eq_true rfl⟩) hW hp51 (fun _ _ H locs hW => ?_)
      have hW : bW D g A s H locs [xW g adX (adN 0) (adT 0) iX X51, gW L kd nu aa, pW g LR so rn ri rl] := hW
      refine b_toQ hE (fun Q hE => ?_)
      refine W.widen (k := 3) (n := 350) (by decide) (by decide) ?_
      exact b_iret hx hb hr hlk hE hW (r50, X51, LR, so, rn, ri, rl) rfl hf rfl dX0_copy_20
