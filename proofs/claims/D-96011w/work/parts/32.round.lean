/-! EverybodyHasTheBook: round(): printed by gen/all.py -/
set_option maxRecDepth 100000
def f_X0_round (fu : Nat) (X : BC) (N : BC) (T : BC) (L : List Nat) (kd : Nat → Nat) (nu : Nat → Int32) (aa : Nat → Int32) (x1 : Int32) (x2 : Int32) (post : Int32 → BC → BC → Prop) : Prop :=
 q_b1 (f_X0_isIn x1 1 3) fun (r1 : Int32) =>
 (if r1 = 0 then
 q_b2 (f_X0_noLow X (-2)) fun (r3 : Int32) (X4 : BC) =>
 post r3 X4 T
 else
 q_b1 (f_X0_isIn x2 (-1) (x1 - 1)) fun (r5 : Int32) =>
 (if r5 = 0 then
 q_b2 (f_X0_noLow X (-2)) fun (r13 : Int32) (X14 : BC) =>
 post r13 X14 T
 else
 q_b2 (f_X13_init fu X N T L kd nu aa x1) fun (S8 : BC) (T9 : BC) =>
 (if x2 = (-1) then
 post (S8.1 0 2) X T9
 else
 q_ck (inB x2 3) (post (S8.1 2 (ix x2)) X T9))))
abbrev rm_X0_round : Room := { frames := 14, cells := 3, slots := 12, locals := 321 }
set_option maxHeartbeats 4000000 in
set_option maxRecDepth 100000 in
theorem m_X0_round (l : Launch) (D : va_G) (g : Nat → ClassId) (sz : Nat) (adX : Nat → Nat) (iX : Option Nat) (adN : Nat → Nat) (adT : Nat → Nat) (fu : Nat) (X : BC) (N : BC) (T : BC) (L : List Nat) (kd : Nat → Nat) (nu : Nat → Int32) (aa : Nat → Int32) (x1 : Int32) (x2 : Int32) (post : Int32 → BC → BC → Prop) (hf : f_X0_round fu X N T L kd nu aa x1 x2 post) : bMet (S := Int32 × BC × BC) l yX0_round (ws_ yX0_round cX0_round 4 (some .int)) rm_X0_round D g sz [.ref (adX 0), .int x1, .int x2] [xW g adX (adN 0) (adT 0) iX X, vW g adN N, vW g adT T, gW L kd nu aa] (fun u => post u.1 u.2.1 u.2.2) (fun u => some (.int u.1)) (fun u => [xW g adX (adN 0) (adT 0) iX (u.2.1), vW g adN N, vW g adT (u.2.2), gW L kd nu aa]) := by
  refine b_met (by decide) (Nat.le_of_ble_eq_true rfl) ?_
  intro p e s m args below meth c A Q ls hx hb hml hr hlk hown hname hts hE hl hW
  revert hW; generalize s.heap = H; intro hW
  have hl : lv_has ls 4 [(0, .ref (adX 0)), (1, .int x1), (2, .int x2)] := hl
  rw [f_X0_round] at hf
  refine lv_iload_n hx hb dX0_round_0 rfl (lv_at hl 1 rfl) ?_
  refine lv_iconst (v := 1) hx hb dX0_round_1 (by decide) ?_
  refine lv_iconst (v := 3) hx hb dX0_round_2 (by decide) ?_
  obtain ⟨r1, hc1, hf⟩ := q_b1s hf
  have hp1 : List.Perm [xW g adX (adN 0) (adT 0) iX X, vW g adN N, vW g adT T, gW L kd nu aa] ([] ++ [xW g adX (adN 0) (adT 0) iX X, vW g adN N, vW g adT T, gW L kd nu aa]) := b_perm [] [0, 1, 2, 3] 4 rfl rfl rfl rfl
  refine b_call0 ⟨rfl, rfl⟩ (va_runS (As := [.int x1, .int 1, .int 3]) (rest := []) ⟨hx, hb, hml, hown, hts⟩ (m_X0_isIn l D g H.size x1 1 3 r1 hc1) (va_cwS 3 hts (lw_S q344 q345 q76 q346) rfl rfl rfl (by decide +kernel) ⟨Nat.le_of_ble_eq_true rfl, Nat.le_of_ble_eq_true rfl⟩) (b_preS hW hp1) rfl rfl hl.1 rfl (lv_room (Nat.le_of_ble_eq_true rfl)) dX0_round_3 ⟨Nat.le_of_ble_eq_true rfl, Nat.le_of_ble_eq_true rfl⟩) hW hp1 (fun _ _ H locs hW => ?_)
  have hW : bW D g A s H locs [xW g adX (adN 0) (adT 0) iX X, vW g adN N, vW g adT T, gW L kd nu aa] := hW
  refine lv_if_eq (tgt := 20) hx hb dX0_round_6 (by decide) (fun c2 => ?_) (fun c2 => ?_)
  · have hf := q_t hf c2
    refine lv_aload_n hx hb dX0_round_20 rfl (lv_at hl 0 rfl) ?_
    refine lv_bipush (v := (-2)) hx hb dX0_round_21 (by decide) ?_
    obtain ⟨r3, X4, hc4, hf⟩ := q_b2s hf
    have hp4 : List.Perm [xW g adX (adN 0) (adT 0) iX X, vW g adN N, vW g adT T, gW L kd nu aa] ([xW g adX (adN 0) (adT 0) iX X] ++ [vW g adN N, vW g adT T, gW L kd nu aa]) := b_perm [0] [1, 2, 3] 4 rfl rfl rfl rfl
    refine b_call0 ⟨rfl, rfl⟩ (va_runV (As := [.int (-2)]) (rest := []) ⟨hx, hb, hml, hown, hts⟩ (m_X0_noLow l D g H.size adX iX adN adT X (-2) r3 X4 hc4) (cwV 1 hts (lw_V q1126 q1128 qs18 q76 q1129) rfl rfl rfl (by decide +kernel) ⟨Nat.le_of_ble_eq_true rfl, Nat.le_of_ble_eq_true rfl⟩) (b_preV (pp := 0) (q := 0) hW hp4 rfl xW_0 rfl) rfl rfl hl.1 rfl (lv_room (Nat.le_of_ble_eq_true rfl)) dX0_round_23 ⟨Nat.le_of_ble_eq_true rfl, Nat.le_of_ble_eq_true rfl⟩) hW hp4 (fun _ _ H locs hW => ?_)
    have hW : bW D g A s H locs [xW g adX (adN 0) (adT 0) iX X4, vW g adN N, vW g adT T, gW L kd nu aa] := hW
    refine W.widen (k := 3) (n := 12) (by omega) (by omega) ?_
    exact b_iret hx hb hr hlk hE hW (r3, X4, T) rfl hf rfl dX0_round_26
  · have hf := q_f hf c2
    refine lv_iload_n hx hb dX0_round_9 rfl (lv_at hl 2 rfl) ?_
    refine lv_iconst (v := (-1)) hx hb dX0_round_10 (by decide) ?_
    refine lv_iload_n hx hb dX0_round_11 rfl (lv_at hl 1 rfl) ?_
    refine lv_iconst (v := 1) hx hb dX0_round_12 (by decide) ?_
    refine lv_isub hx hb dX0_round_13 ?_
    obtain ⟨r5, hc5, hf⟩ := q_b1s hf
    have hp5 : List.Perm [xW g adX (adN 0) (adT 0) iX X, vW g adN N, vW g adT T, gW L kd nu aa] ([] ++ [xW g adX (adN 0) (adT 0) iX X, vW g adN N, vW g adT T, gW L kd nu aa]) := b_perm [] [0, 1, 2, 3] 4 rfl rfl rfl rfl
    refine b_call0 ⟨rfl, rfl⟩ (va_runS (As := [.int x2, .int (-1), .int (x1 - 1)]) (rest := []) ⟨hx, hb, hml, hown, hts⟩ (m_X0_isIn l D g H.size x2 (-1) (x1 - 1) r5 hc5) (va_cwS 3 hts (lw_S q344 q345 q76 q346) rfl rfl rfl (by decide +kernel) ⟨Nat.le_of_ble_eq_true rfl, Nat.le_of_ble_eq_true rfl⟩) (b_preS hW hp5) rfl rfl hl.1 rfl (lv_room (Nat.le_of_ble_eq_true rfl)) dX0_round_14 ⟨Nat.le_of_ble_eq_true rfl, Nat.le_of_ble_eq_true rfl⟩) hW hp5 (fun _ _ H locs hW => ?_)
    have hW : bW D g A s H locs [xW g adX (adN 0) (adT 0) iX X, vW g adN N, vW g adT T, gW L kd nu aa] := hW
    refine lv_if_ne (tgt := 27) hx hb dX0_round_17 (by decide) (fun c6 => ?_) (fun c6 => ?_)
    · have hf := q_f hf c6
      refine b_new (ci := 13) (fs := [.int 0, .null, .null, .int 0, .int 0, .null]) hx hb hts in_X13 tyX13 tyX13_ok hown (hts _ q1322) (hts _ q1323) (hts _ q109) hW rfl (by intro j hj; rcases (show j = 0 ∨ j = 1 ∨ j = 2 ∨ j = 3 ∨ j = 4 ∨ j = 5 by omega) with rfl | rfl | rfl | rfl | rfl | rfl <;> rfl) (Nat.le_of_ble_eq_true rfl) (Nat.le_of_ble_eq_true rfl) dX0_round_27 (fun z7 H hW => ?_)
      refine W.cs (cells' := 1) (slots' := 6) rfl rfl ?_
      have hW : bW D g A s H _ [xW g adX (adN 0) (adT 0) iX X, vW g adN N, vW g adT T, gW L kd nu aa, [(z7, .inr (13, [.int 0, .null, .null, .int 0, .int 0, .null]))]] := hW
      refine lv_dup hx hb dX0_round_30 rfl ?_
      refine lv_aload_n hx hb dX0_round_31 rfl (lv_at hl 0 rfl) ?_
      refine lv_iload_n hx hb dX0_round_32 rfl (lv_at hl 1 rfl) ?_
      obtain ⟨S8, T9, hc9, hf⟩ := q_b2s hf
      have hp9 : List.Perm ([xW g adX (adN 0) (adT 0) iX X, vW g adN N, vW g adT T, gW L kd nu aa, [(z7, .inr (13, [.int 0, .null, .null, .int 0, .int 0, .null]))]] : List va_W) ([[(z7, .inr (13, [.int 0, .null, .null, .int 0, .int 0, .null]))], xW g adX (adN 0) (adT 0) iX X, vW g adN N, vW g adT T, gW L kd nu aa] ++ []) := b_perm [4, 0, 1, 2, 3] [] 5 rfl rfl rfl rfl
      refine b_call (va_runI (As := [.ref (adX 0), .int x1]) (rest := [.ref z7]) ⟨hx, hb, hml, hown, hts⟩ (m_X13_init l D g H.size z7 adX iX adN adT fu X N T L kd nu aa x1 S8 T9 hc9) (cwI 2 hts (lw_meth q1326) rfl rfl rfl (hts _ q109) (hts _ q1324) (hts _ q1325) rfl (by decide +kernel) ⟨Nat.le_of_ble_eq_true rfl, Nat.le_of_ble_eq_true rfl⟩) (b_preS hW hp9) rfl rfl hl.1 rfl (lv_room (Nat.le_of_ble_eq_true rfl)) dX0_round_33 ⟨Nat.le_of_ble_eq_true rfl, Nat.le_of_ble_eq_true rfl⟩) hW hp9 (fun adS10 hadS10 H locs hW => ?_)
      refine W.cs (cells' := 3) (slots' := 12) rfl rfl ?_
      rw [← hadS10]
      have hW : bW D g A s H _ [sW g adS10 (adX 0) S8, xW g adX (adN 0) (adT 0) iX X, vW g adN N, vW g adT T9, gW L kd nu aa] := hW
      refine lv_astore_n (lv' := [(3, .ref (adS10 0)), (0, .ref (adX 0)), (1, .int x1), (2, .int x2)]) hx hb dX0_round_36 rfl hl (by decide) rfl (fun ls hl => ?_)
      refine lv_iload_n hx hb dX0_round_37 rfl (lv_at hl 3 rfl) ?_
      refine lv_iconst (v := (-1)) hx hb dX0_round_38 (by decide) ?_
      refine lv_icmp_ne (tgt := 49) hx hb dX0_round_39 (by decide) (fun c11 => ?_) (fun c11 => ?_)
      · have hf := q_f hf c11
        refine lv_aload_n hx hb dX0_round_49 rfl (lv_at hl 0 rfl) ?_
        refine b_get hx hb hts in_X13 hown hW 0 0 13 2 rfl sW_0 rfl (by decide) ⟨rfl, rfl, rfl⟩ (hts _ q1342) sW_g2 dX0_round_50 ?_
        refine lv_iload_n hx hb dX0_round_53 rfl (lv_at hl 3 rfl) ?_
        obtain ⟨h12, hf⟩ := q_cs hf
        refine b_iald hx hb hW 0 2 rfl sW_2 h12 dX0_round_54 ?_
        refine W.widen (k := 3) (n := 12) (by omega) (by omega) ?_
        exact b_iret hx hb hr hlk hE (b_sub (Bs' := [xW g adX (adN 0) (adT 0) iX X, vW g adN N, vW g adT T9, gW L kd nu aa]) (wr := [sW g adS10 (adX 0) S8]) hW (b_ord [1, 2, 3, 4, 0] 5 rfl rfl rfl)) (S8.1 2 (ix x2), X, T9) rfl hf rfl dX0_round_55
      · have hf := q_t hf c11
        refine lv_aload_n hx hb dX0_round_42 rfl (lv_at hl 0 rfl) ?_
        refine b_get hx hb hts in_X13 hown hW 0 0 13 4 rfl sW_0 rfl (by decide) ⟨rfl, rfl, rfl⟩ (hts _ q1345) sW_g4 dX0_round_43 ?_
        refine lv_goto (tgt := 55) hx hb dX0_round_46 (by decide) ?_
        refine W.widen (k := 3) (n := 12) (by omega) (by omega) ?_
        exact b_iret hx hb hr hlk hE (b_sub (Bs' := [xW g adX (adN 0) (adT 0) iX X, vW g adN N, vW g adT T9, gW L kd nu aa]) (wr := [sW g adS10 (adX 0) S8]) hW (b_ord [1, 2, 3, 4, 0] 5 rfl rfl rfl)) (S8.1 0 2, X, T9) rfl hf rfl dX0_round_55
    · have hf := q_t hf c6
      refine lv_aload_n hx hb dX0_round_20 rfl (lv_at hl 0 rfl) ?_
      refine lv_bipush (v := (-2)) hx hb dX0_round_21 (by decide) ?_
      obtain ⟨r13, X14, hc14, hf⟩ := q_b2s hf
      have hp14 : List.Perm [xW g adX (adN 0) (adT 0) iX X, vW g adN N, vW g adT T, gW L kd nu aa] ([xW g adX (adN 0) (adT 0) iX X] ++ [vW g adN N, vW g adT T, gW L kd nu aa]) := b_perm [0] [1, 2, 3] 4 rfl rfl rfl rfl
      refine b_call0 ⟨rfl, rfl⟩ (va_runV (As := [.int (-2)]) (rest := []) ⟨hx, hb, hml, hown, hts⟩ (m_X0_noLow l D g H.size adX iX adN adT X (-2) r13 X14 hc14) (cwV 1 hts (lw_V q1126 q1128 qs18 q76 q1129) rfl rfl rfl (by decide +kernel) ⟨Nat.le_of_ble_eq_true rfl, Nat.le_of_ble_eq_true rfl⟩) (b_preV (pp := 0) (q := 0) hW hp14 rfl xW_0 rfl) rfl rfl hl.1 rfl (lv_room (Nat.le_of_ble_eq_true rfl)) dX0_round_23 ⟨Nat.le_of_ble_eq_true rfl, Nat.le_of_ble_eq_true rfl⟩) hW hp14 (fun _ _ H locs hW => ?_)
      have hW : bW D g A s H locs [xW g adX (adN 0) (adT 0) iX X14, vW g adN N, vW g adT T, gW L kd nu aa] := hW
      refine W.widen (k := 3) (n := 12) (by omega) (by omega) ?_
      exact b_iret hx hb hr hlk hE hW (r13, X14, T) rfl hf rfl dX0_round_26
