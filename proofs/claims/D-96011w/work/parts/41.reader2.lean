/-! THE READER, on: printed by gen/all.py -/
set_option maxRecDepth 100000
def f_X11_takes (fu : Nat) (g : Nat → Nat) (R : BC) (X : BC) (Dd : Option DT) (x1 : Nat) (post : Int32 → BC → (Option DT) → Prop) : Prop :=
 q_op (R.2.1 0 0) (post 0 R Dd) fun (z1 : Nat) => q_od Dd (q_ck (decide (z1 = g (100 + 6))) (q_op (R.2.1 0 0) (False) fun (z4 : Nat) => q_ck (decide (z4 = g (100 + 6))) (q_b1 (f_J4_equals_k fu 6 x1) fun (r6 : Int32) =>
 (if r6 = 0 then
 post 0 R none
 else
 f_X11_next fu g R X (fun (R10 : BC) (D11 : Option DT) =>
 post 1 R10 D11))))) fun (qD2 : Nat) (bD2 : Nat) (nD2 : Nat) (fD2 : Nat → Int32) (hD2 : Int32) (hzD2 : Int32) => q_ck (decide (z1 = qD2)) (q_op (R.2.1 0 0) (False) fun (z12 : Nat) => q_ck (decide (z12 = qD2)) (q_b1 (f_J4_equals_b fu nD2 fD2 hD2 hzD2 x1) fun (r14 : Int32) =>
 (if r14 = 0 then
 q_lt (some (qD2, bD2, nD2, fD2, hD2, hzD2)) fun (D20 : Option DT) =>
 post 0 R D20
 else
 f_X11_next fu g R X (fun (R18 : BC) (D19 : Option DT) =>
 post 1 R18 D19))))
abbrev rm_X11_takes : Room := { frames := 7, cells := 6, slots := 202, locals := 196 }
set_option maxHeartbeats 4000000 in
set_option maxRecDepth 100000 in
theorem m_X11_takes (l : Launch) (D : va_G) (g : Nat → ClassId) (sz : Nat) (adR : Nat → Nat) (adX : Nat → Nat) (iX : Option Nat) (adN : Nat → Nat) (adT : Nat → Nat) (adO : Nat → Nat) (fu : Nat) (R : BC) (X : BC) (Dd : Option DT) (x1 : Nat) (post : Int32 → BC → (Option DT) → Prop) (hx1 : x1 < 7) (hf : f_X11_takes fu g R X Dd x1 post) : bxMet (S := Int32 × BC × (Option DT)) (SX := Unit) l yX11_takes (ws_ yX11_takes cX11_takes 2 (some .boolean)) rm_X11_takes D g sz [.ref (adR 0), .ref (g (100 + x1))] [rW g adR (adX 10) (adN 0) R, xW g adX (adO 0) (adT 0) iX X, dW g Dd] (fun u => post u.1 u.2.1 u.2.2) (fun u => some (.int u.1)) (fun u => [rW g adR (adX 10) (adN 0) (u.2.1), xW g adX (adO 0) (adT 0) iX X, dW g u.2.2]) (fun _ _ _ => False) (fun _ => [rW g adR (adX 10) (adN 0) R, xW g adX (adO 0) (adT 0) iX X, dW g Dd]) := by
  refine b_metX (by decide) (Nat.le_of_ble_eq_true rfl) ?_
  intro p e s m args below meth c A Q ls hx hb hml hr hlk hown hname hts hno hE hl hW
  revert hW; generalize s.heap = H; intro hW
  have hl : lv_has ls 2 [(0, .ref (adR 0)), (1, .ref (g (100 + x1)))] := hl
  rw [f_X11_takes] at hf
  refine lv_aload_n hx hb dX11_takes_0 rfl (lv_at hl 0 rfl) ?_
  refine b_get hx hb hts in_X11 hown hW 0 0 11 5 rfl rW_0 rfl (by decide) ⟨rfl, rfl, rfl⟩ (hts _ q748) rW_g5 dX11_takes_1 ?_
  refine b_split (fun hrf => ?_) (fun z1 hrf => ?_)
  · have hf := q_opn hf hrf
    refine lv_ifnullN (tgt := 18) hx hb dX11_takes_4 (by decide) ?_
    refine lv_iconst (v := 0) hx hb dX11_takes_18 (by decide) ?_
    refine b_toQ hE (fun Q hE => ?_)
    refine W.widen (k := 6) (n := 202) (by decide) (by decide) ?_
    exact b_zret hx hb hr hlk hE hW (0, R, Dd) rfl hf rfl (by decide) dX11_takes_19
  · have hf := q_ops hf hrf
    rcases Dd with _ | ⟨qD2, bD2, nD2, fD2, hD2, hzD2⟩
    · have hf := q_odn hf
      obtain ⟨hz3, hfN⟩ := q_cs hf; clear hf; have hz3 := of_decide_eq_true hz3; subst hz3; have hf := hfN; clear hfN
      refine lv_ifnull hx hb dX11_takes_4 ?_
      refine lv_aload_n hx hb dX11_takes_7 rfl (lv_at hl 0 rfl) ?_
      refine b_get hx hb hts in_X11 hown hW 0 0 11 5 rfl rW_0 rfl (by decide) ⟨rfl, rfl, rfl⟩ (hts _ q748) rW_g5 dX11_takes_8 ?_
      refine b_split (fun hrf => ?_) (fun z4 hrf => ?_)
      · have hf := q_opn hf hrf
        exact hf.elim
      · have hf := q_ops hf hrf
        obtain ⟨hz5, hfN⟩ := q_cs hf; clear hf; have hz5 := of_decide_eq_true hz5; subst hz5; have hf := hfN; clear hfN
        refine lv_aload_n hx hb dX11_takes_11 rfl (lv_at hl 1 rfl) ?_
        obtain ⟨r6, hc7, hf⟩ := q_b1s hf
        have hp7 : List.Perm ([rW g adR (adX 10) (adN 0) R, xW g adX (adO 0) (adT 0) iX X, dW g none] : List va_W) ([] ++ [rW g adR (adX 10) (adN 0) R, xW g adX (adO 0) (adT 0) iX X, dW g none]) := b_perm [] [0, 1, 2] 3 rfl rfl rfl rfl
        refine b_call0 ⟨rfl, rfl⟩ (va_runV (As := [.ref (g (100 + x1))]) (rest := []) ⟨hx, hb, hml, hown, hts⟩ (m_J4_equals_k l D g H.size fu 6 x1 (by decide) hx1 r6 hc7) (cwV 1 hts (lw_V q1045 q1046 q1047 q84 q1048) rfl rfl rfl (by decide +kernel) ⟨Nat.le_of_ble_eq_true rfl, Nat.le_of_ble_eq_true rfl⟩) ⟨b_blind, vk_recv (b_eK hW).1 (by decide) hW.2.2.2.1, b_pre hW hp7⟩ rfl rfl hl.1 rfl (by exact lv_room (Nat.le_of_ble_eq_true rfl)) dX11_takes_12 ⟨Nat.le_of_ble_eq_true rfl, Nat.le_of_ble_eq_true rfl⟩) hW hp7 (fun _ _ H locs hW => ?_)
        have hW : bW D g A s H locs [rW g adR (adX 10) (adN 0) R, xW g adX (adO 0) (adT 0) iX X, dW g none] := hW
        refine lv_if_ne (tgt := 20) hx hb dX11_takes_15 (by decide) (fun c8 => ?_) (fun c8 => ?_)
        · have hf := q_f hf c8
          refine lv_aload_n hx hb dX11_takes_20 rfl (lv_at hl 0 rfl) ?_
          have hp9 : List.Perm ([rW g adR (adX 10) (adN 0) R, xW g adX (adO 0) (adT 0) iX X, dW g none] : List va_W) ([rW g adR (adX 10) (adN 0) R, xW g adX (adO 0) (adT 0) iX X] ++ [dW g none]) := b_perm [0, 1] [2] 3 rfl rfl rfl rfl
          refine b_call (va_runV (As := []) (rest := []) ⟨hx, hb, hml, hown, hts⟩ (m_X11_next l D g H.size adR adX adN adO adT iX fu R X _ hf) (cwV 0 hts (lw_V q769 q771 qs7 q100 q772) rfl rfl rfl (by decide +kernel) ⟨Nat.le_of_ble_eq_true rfl, Nat.le_of_ble_eq_true rfl⟩) (b_preV (pp := 0) (q := 0) hW hp9 rfl rW_0 rfl) rfl rfl hl.1 rfl (lv_room (Nat.le_of_ble_eq_true rfl)) dX11_takes_21 ⟨Nat.le_of_ble_eq_true rfl, Nat.le_of_ble_eq_true rfl⟩) hW hp9 (fun u9 hf H locs hW => ?_)
          obtain ⟨R10, D11⟩ := u9; try dsimp only at hf hW
          refine W.cs (cells' := 6) (slots' := 202) rfl rfl ?_
          have hW : bW D g A s H locs [rW g adR (adX 10) (adN 0) R10, xW g adX (adO 0) (adT 0) iX X, dW g D11, dW g none] := hW
          have hW := b_sub (Bs' := [rW g adR (adX 10) (adN 0) R10, xW g adX (adO 0) (adT 0) iX X, dW g D11]) (wr := [dW g none]) hW (b_ord [0, 1, 2, 3] 4 rfl rfl rfl)
          have hW : bW D g A s H locs [rW g adR (adX 10) (adN 0) R10, xW g adX (adO 0) (adT 0) iX X, dW g D11] := hW
          refine lv_iconst (v := 1) hx hb dX11_takes_24 (by decide) ?_
          refine b_toQ hE (fun Q hE => ?_)
          refine W.widen (k := 6) (n := 202) (by decide) (by decide) ?_
          exact b_zret hx hb hr hlk hE hW (1, R10, D11) rfl hf rfl (by decide) dX11_takes_25
        · have hf := q_t hf c8
          refine lv_iconst (v := 0) hx hb dX11_takes_18 (by decide) ?_
          refine b_toQ hE (fun Q hE => ?_)
          refine W.widen (k := 6) (n := 202) (by decide) (by decide) ?_
          exact b_zret hx hb hr hlk hE hW (0, R, none) rfl hf rfl (by decide) dX11_takes_19
    · have hf := q_ods hf
      obtain ⟨hz3, hfN⟩ := q_cs hf; clear hf; have hz3 := (of_decide_eq_true hz3).symm; subst hz3; have hf := hfN; clear hfN
      have hW : bW D g A s H _ [rW g adR (adX 10) (adN 0) R, xW g adX (adO 0) (adT 0) iX X, dE g (qD2, bD2, nD2, fD2, hD2, hzD2)] := hW
      refine lv_ifnull hx hb dX11_takes_4 ?_
      refine lv_aload_n hx hb dX11_takes_7 rfl (lv_at hl 0 rfl) ?_
      refine b_get hx hb hts in_X11 hown hW 0 0 11 5 rfl rW_0 rfl (by decide) ⟨rfl, rfl, rfl⟩ (hts _ q748) rW_g5 dX11_takes_8 ?_
      refine b_split (fun hrf => ?_) (fun z12 hrf => ?_)
      · have hf := q_opn hf hrf
        exact hf.elim
      · have hf := q_ops hf hrf
        obtain ⟨hz13, hfN⟩ := q_cs hf; clear hf; have hz13 := (of_decide_eq_true hz13).symm; subst hz13; have hf := hfN; clear hfN
        refine lv_aload_n hx hb dX11_takes_11 rfl (lv_at hl 1 rfl) ?_
        obtain ⟨r14, hc15, hf⟩ := q_b1s hf
        have hp15 : List.Perm ([rW g adR (adX 10) (adN 0) R, xW g adX (adO 0) (adT 0) iX X, dE g (qD2, bD2, nD2, fD2, hD2, hzD2)] : List va_W) ([dE g (qD2, bD2, nD2, fD2, hD2, hzD2)] ++ [rW g adR (adX 10) (adN 0) R, xW g adX (adO 0) (adT 0) iX X]) := b_perm [2] [0, 1] 3 rfl rfl rfl rfl
        refine b_call0 ⟨rfl, rfl⟩ (va_runV (As := [.ref (g (100 + x1))]) (rest := []) ⟨hx, hb, hml, hown, hts⟩ (m_J4_equals_b l D g H.size qD2 bD2 fu nD2 fD2 hD2 hzD2 x1 hx1 r14 hc15) (cwV 1 hts (lw_V q1045 q1046 q1047 q84 q1048) rfl rfl rfl (by decide +kernel) ⟨Nat.le_of_ble_eq_true rfl, Nat.le_of_ble_eq_true rfl⟩) (b_preV (pp := 2) (q := 0) hW hp15 rfl rfl rfl) rfl rfl hl.1 rfl (by exact lv_room (Nat.le_of_ble_eq_true rfl)) dX11_takes_12 ⟨Nat.le_of_ble_eq_true rfl, Nat.le_of_ble_eq_true rfl⟩) hW hp15 (fun _ _ H locs hW => ?_)
        have hW : bW D g A s H locs [dE g (qD2, bD2, nD2, fD2, hD2, hzD2), rW g adR (adX 10) (adN 0) R, xW g adX (adO 0) (adT 0) iX X] := hW
        refine lv_if_ne (tgt := 20) hx hb dX11_takes_15 (by decide) (fun c16 => ?_) (fun c16 => ?_)
        · have hf := q_f hf c16
          refine lv_aload_n hx hb dX11_takes_20 rfl (lv_at hl 0 rfl) ?_
          have hp17 : List.Perm ([dE g (qD2, bD2, nD2, fD2, hD2, hzD2), rW g adR (adX 10) (adN 0) R, xW g adX (adO 0) (adT 0) iX X] : List va_W) ([rW g adR (adX 10) (adN 0) R, xW g adX (adO 0) (adT 0) iX X] ++ [dE g (qD2, bD2, nD2, fD2, hD2, hzD2)]) := b_perm [1, 2] [0] 3 rfl rfl rfl rfl
          refine b_call (va_runV (As := []) (rest := []) ⟨hx, hb, hml, hown, hts⟩ (m_X11_next l D g H.size adR adX adN adO adT iX fu R X _ hf) (cwV 0 hts (lw_V q769 q771 qs7 q100 q772) rfl rfl rfl (by decide +kernel) ⟨Nat.le_of_ble_eq_true rfl, Nat.le_of_ble_eq_true rfl⟩) (b_preV (pp := 1) (q := 0) hW hp17 rfl rW_0 rfl) rfl rfl hl.1 rfl (lv_room (Nat.le_of_ble_eq_true rfl)) dX11_takes_21 ⟨Nat.le_of_ble_eq_true rfl, Nat.le_of_ble_eq_true rfl⟩) hW hp17 (fun u17 hf H locs hW => ?_)
          obtain ⟨R18, D19⟩ := u17; try dsimp only at hf hW
          refine W.cs (cells' := 6) (slots' := 202) rfl rfl ?_
          have hW : bW D g A s H locs [rW g adR (adX 10) (adN 0) R18, xW g adX (adO 0) (adT 0) iX X, dW g D19, dE g (qD2, bD2, nD2, fD2, hD2, hzD2)] := hW
          have hW := b_sub (Bs' := [rW g adR (adX 10) (adN 0) R18, xW g adX (adO 0) (adT 0) iX X, dW g D19]) (wr := [dE g (qD2, bD2, nD2, fD2, hD2, hzD2)]) hW (b_ord [0, 1, 2, 3] 4 rfl rfl rfl)
          have hW : bW D g A s H locs [rW g adR (adX 10) (adN 0) R18, xW g adX (adO 0) (adT 0) iX X, dW g D19] := hW
          refine lv_iconst (v := 1) hx hb dX11_takes_24 (by decide) ?_
          refine b_toQ hE (fun Q hE => ?_)
          refine W.widen (k := 6) (n := 202) (by decide) (by decide) ?_
          exact b_zret hx hb hr hlk hE hW (1, R18, D19) rfl hf rfl (by decide) dX11_takes_25
        · have hf := q_t hf c16
          refine lv_iconst (v := 0) hx hb dX11_takes_18 (by decide) ?_
          obtain ⟨D20, eD20, hf⟩ := q_ls hf
          have hW : bW D g A s H _ [dW g D20, rW g adR (adX 10) (adN 0) R, xW g adX (adO 0) (adT 0) iX X] := (by subst eD20; exact hW)
          refine b_toQ hE (fun Q hE => ?_)
          refine W.widen (k := 6) (n := 202) (by decide) (by decide) ?_
          exact b_zret hx hb hr hlk hE (b_perms hW (b_ord [1, 2, 0] 3 rfl rfl rfl)) (0, R, D20) rfl hf rfl (by decide) dX11_takes_19
def f_X11_number (fu : Nat) (g : Nat → Nat) (R : BC) (X : BC) (Dd : Option DT) (x1 : Int32) (x2 : Int32) (post : Int32 → BC → (Option DT) → Prop) (postX : Int32 → BC → (Option DT) → Prop) : Prop :=
 (if (R.1 0 3) < x1 then
 postX (R.1 0 2) R Dd
 else
 (if (R.1 0 3) ≤ x2 then
 q_lt (R.1 0 3) fun (v6 : Int32) =>
 f_X11_next fu g R X (fun (R8 : BC) (D9 : Option DT) =>
 post v6 R8 D9)
 else
 postX (R.1 0 2) R Dd))
abbrev rm_X11_number : Room := { frames := 7, cells := 6, slots := 202, locals := 196 }
set_option maxHeartbeats 4000000 in
set_option maxRecDepth 100000 in
theorem m_X11_number (l : Launch) (D : va_G) (g : Nat → ClassId) (sz : Nat) (adR : Nat → Nat) (adX : Nat → Nat) (iX : Option Nat) (adN : Nat → Nat) (adT : Nat → Nat) (adO : Nat → Nat) (fu : Nat) (R : BC) (X : BC) (Dd : Option DT) (x1 : Int32) (x2 : Int32) (post : Int32 → BC → (Option DT) → Prop) (postX : Int32 → BC → (Option DT) → Prop) (hf : f_X11_number fu g R X Dd x1 x2 post postX) : bxMet (S := Int32 × BC × (Option DT)) (SX := Nat × Int32 × BC × (Option DT)) l yX11_number (ws_ yX11_number cX11_number 4 (some .int)) rm_X11_number D g sz [.ref (adR 0), .int x1, .int x2] [rW g adR (adX 10) (adN 0) R, xW g adX (adO 0) (adT 0) iX X, dW g Dd] (fun u => post u.1 u.2.1 u.2.2) (fun u => some (.int u.1)) (fun u => [rW g adR (adX 10) (adN 0) (u.2.1), xW g adX (adO 0) (adT 0) iX X, dW g u.2.2]) (fun E q u => E = "EverybodyHasTheBook$Fault" ∧ q = u.1 ∧ postX u.2.1 u.2.2.1 u.2.2.2) (fun u => [rW g adR (adX 10) (adN 0) (u.2.2.1), xW g adX (adO 0) (adT 0) iX X, dW g u.2.2.2, [(u.1, .inr (12, xRf u.2.1))]]) := by
  refine b_metX (by decide) (Nat.le_of_ble_eq_true rfl) ?_
  intro p e s m args below meth c A Q ls hx hb hml hr hlk hown hname hts hno hE hl hW
  revert hW; generalize s.heap = H; intro hW
  have hl : lv_has ls 4 [(0, .ref (adR 0)), (1, .int x1), (2, .int x2)] := hl
  rw [f_X11_number] at hf
  refine lv_aload_n hx hb dX11_number_0 rfl (lv_at hl 0 rfl) ?_
  refine b_get hx hb hts in_X11 hown hW 0 0 11 6 rfl rW_0 rfl (by decide) ⟨rfl, rfl, rfl⟩ (hts _ q749) rW_g6 dX11_number_1 ?_
  refine lv_iload_n hx hb dX11_number_4 rfl (lv_at hl 1 rfl) ?_
  refine lv_icmp_lt (tgt := 16) hx hb dX11_number_5 (by decide) (fun c1 => ?_) (fun c1 => ?_)
  · have hf := q_t hf c1
    refine lv_aload_n hx hb dX11_number_16 rfl (lv_at hl 0 rfl) ?_
    have hp2 : List.Perm ([rW g adR (adX 10) (adN 0) R, xW g adX (adO 0) (adT 0) iX X, dW g Dd] : List va_W) ([rW g adR (adX 10) (adN 0) R] ++ [xW g adX (adO 0) (adT 0) iX X, dW g Dd]) := b_perm [0] [1, 2] 3 rfl rfl rfl rfl
    refine b_call (va_runV (As := []) (rest := []) ⟨hx, hb, hml, hown, hts⟩ (m_X11_wrong l D g H.size adR (adX 10) (adN 0) R) (cwV 0 hts (lw_V q968 q970 qs10 q100 q971) rfl rfl rfl (by decide +kernel) ⟨Nat.le_of_ble_eq_true rfl, Nat.le_of_ble_eq_true rfl⟩) (b_preV (pp := 0) (q := 0) hW hp2 rfl rW_0 rfl) rfl rfl hl.1 rfl (lv_room (Nat.le_of_ble_eq_true rfl)) dX11_number_17 ⟨Nat.le_of_ble_eq_true rfl, Nat.le_of_ble_eq_true rfl⟩) hW hp2 (fun zF3 _ H locs hW => ?_)
    refine W.cs (cells' := 1) (slots' := 7) rfl rfl ?_
    have hW : bW D g A s H locs [rW g adR (adX 10) (adN 0) R, [(zF3, .inr (12, xRf (R.1 0 2)))], xW g adX (adO 0) (adT 0) iX X, dW g Dd] := hW
    refine vx_athrow hx hb dX11_number_20 ?_
    obtain ⟨ce3, hcell, hcv, hcl⟩ := b_xcell hW (pp := 1) (q := 0) (ci := 12) rfl rfl rfl
    exact b_outX hE hlk hno (b_perms hW (b_ord [0, 2, 3, 1] 4 rfl rfl rfl)) (zF3, (R.1 0 2), R, Dd) rfl hcell hcv hcl ⟨rfl, rfl, hf⟩ (Nat.le_of_ble_eq_true rfl) (Nat.le_of_ble_eq_true rfl)
  · have hf := q_f hf c1
    refine lv_aload_n hx hb dX11_number_8 rfl (lv_at hl 0 rfl) ?_
    refine b_get hx hb hts in_X11 hown hW 0 0 11 6 rfl rW_0 rfl (by decide) ⟨rfl, rfl, rfl⟩ (hts _ q749) rW_g6 dX11_number_9 ?_
    refine lv_iload_n hx hb dX11_number_12 rfl (lv_at hl 2 rfl) ?_
    refine lv_icmp_le (tgt := 21) hx hb dX11_number_13 (by decide) (fun c5 => ?_) (fun c5 => ?_)
    · have hf := q_t hf c5
      refine lv_aload_n hx hb dX11_number_21 rfl (lv_at hl 0 rfl) ?_
      refine b_get hx hb hts in_X11 hown hW 0 0 11 6 rfl rW_0 rfl (by decide) ⟨rfl, rfl, rfl⟩ (hts _ q749) rW_g6 dX11_number_22 ?_
      obtain ⟨v6, ev6, hf⟩ := q_ls hf
      refine b_topi ev6 ?_
      refine lv_istore_n (lv' := [(3, .int v6), (0, .ref (adR 0)), (1, .int x1), (2, .int x2)]) hx hb dX11_number_25 rfl hl (by decide) rfl (fun ls hl => ?_)
      refine lv_aload_n hx hb dX11_number_26 rfl (lv_at hl 1 rfl) ?_
      have hp7 : List.Perm ([rW g adR (adX 10) (adN 0) R, xW g adX (adO 0) (adT 0) iX X, dW g Dd] : List va_W) ([rW g adR (adX 10) (adN 0) R, xW g adX (adO 0) (adT 0) iX X] ++ [dW g Dd]) := b_perm [0, 1] [2] 3 rfl rfl rfl rfl
      refine b_call (va_runV (As := []) (rest := []) ⟨hx, hb, hml, hown, hts⟩ (m_X11_next l D g H.size adR adX adN adO adT iX fu R X _ hf) (cwV 0 hts (lw_V q769 q771 qs7 q100 q772) rfl rfl rfl (by decide +kernel) ⟨Nat.le_of_ble_eq_true rfl, Nat.le_of_ble_eq_true rfl⟩) (b_preV (pp := 0) (q := 0) hW hp7 rfl rW_0 rfl) rfl rfl hl.1 rfl (lv_room (Nat.le_of_ble_eq_true rfl)) dX11_number_27 ⟨Nat.le_of_ble_eq_true rfl, Nat.le_of_ble_eq_true rfl⟩) hW hp7 (fun u7 hf H locs hW => ?_)
      obtain ⟨R8, D9⟩ := u7; try dsimp only at hf hW
      refine W.cs (cells' := 6) (slots' := 202) rfl rfl ?_
      have hW : bW D g A s H locs [rW g adR (adX 10) (adN 0) R8, xW g adX (adO 0) (adT 0) iX X, dW g D9, dW g Dd] := hW
      have hW := b_sub (Bs' := [rW g adR (adX 10) (adN 0) R8, xW g adX (adO 0) (adT 0) iX X, dW g D9]) (wr := [dW g Dd]) hW (b_ord [0, 1, 2, 3] 4 rfl rfl rfl)
      have hW : bW D g A s H locs [rW g adR (adX 10) (adN 0) R8, xW g adX (adO 0) (adT 0) iX X, dW g D9] := hW
      refine lv_iload_n hx hb dX11_number_30 rfl (lv_at hl 0 rfl) ?_
      refine b_toQ hE (fun Q hE => ?_)
      refine W.widen (k := 6) (n := 202) (by decide) (by decide) ?_
      exact b_iret hx hb hr hlk hE hW (v6, R8, D9) rfl hf rfl dX11_number_31
    · have hf := q_f hf c5
      refine lv_aload_n hx hb dX11_number_16 rfl (lv_at hl 0 rfl) ?_
      have hp10 : List.Perm ([rW g adR (adX 10) (adN 0) R, xW g adX (adO 0) (adT 0) iX X, dW g Dd] : List va_W) ([rW g adR (adX 10) (adN 0) R] ++ [xW g adX (adO 0) (adT 0) iX X, dW g Dd]) := b_perm [0] [1, 2] 3 rfl rfl rfl rfl
      refine b_call (va_runV (As := []) (rest := []) ⟨hx, hb, hml, hown, hts⟩ (m_X11_wrong l D g H.size adR (adX 10) (adN 0) R) (cwV 0 hts (lw_V q968 q970 qs10 q100 q971) rfl rfl rfl (by decide +kernel) ⟨Nat.le_of_ble_eq_true rfl, Nat.le_of_ble_eq_true rfl⟩) (b_preV (pp := 0) (q := 0) hW hp10 rfl rW_0 rfl) rfl rfl hl.1 rfl (lv_room (Nat.le_of_ble_eq_true rfl)) dX11_number_17 ⟨Nat.le_of_ble_eq_true rfl, Nat.le_of_ble_eq_true rfl⟩) hW hp10 (fun zF11 _ H locs hW => ?_)
      refine W.cs (cells' := 1) (slots' := 7) rfl rfl ?_
      have hW : bW D g A s H locs [rW g adR (adX 10) (adN 0) R, [(zF11, .inr (12, xRf (R.1 0 2)))], xW g adX (adO 0) (adT 0) iX X, dW g Dd] := hW
      refine vx_athrow hx hb dX11_number_20 ?_
      obtain ⟨ce11, hcell, hcv, hcl⟩ := b_xcell hW (pp := 1) (q := 0) (ci := 12) rfl rfl rfl
      exact b_outX hE hlk hno (b_perms hW (b_ord [0, 2, 3, 1] 4 rfl rfl rfl)) (zF11, (R.1 0 2), R, Dd) rfl hcell hcv hcl ⟨rfl, rfl, hf⟩ (Nat.le_of_ble_eq_true rfl) (Nat.le_of_ble_eq_true rfl)
def f_X11_room (fu : Nat) (g : Nat → Nat) (R : BC) (X : BC) (Dd : Option DT) (x1 : Int32) (x2 : Int32) (post : BC → (Option DT) → Prop) (postX : Int32 → BC → (Option DT) → Prop) : Prop :=
 (if x1 = x2 then
 postX (R.1 0 2) R Dd
 else
 f_X11_next fu g R X (fun (R3 : BC) (D4 : Option DT) =>
 post R3 D4))
abbrev rm_X11_room : Room := { frames := 7, cells := 6, slots := 202, locals := 196 }
set_option maxHeartbeats 4000000 in
set_option maxRecDepth 100000 in
theorem m_X11_room (l : Launch) (D : va_G) (g : Nat → ClassId) (sz : Nat) (adR : Nat → Nat) (adX : Nat → Nat) (iX : Option Nat) (adN : Nat → Nat) (adT : Nat → Nat) (adO : Nat → Nat) (fu : Nat) (R : BC) (X : BC) (Dd : Option DT) (x1 : Int32) (x2 : Int32) (post : BC → (Option DT) → Prop) (postX : Int32 → BC → (Option DT) → Prop) (hf : f_X11_room fu g R X Dd x1 x2 post postX) : bxMet (S := BC × (Option DT)) (SX := Nat × Int32 × BC × (Option DT)) l yX11_room (ws_ yX11_room cX11_room 3 none) rm_X11_room D g sz [.ref (adR 0), .int x1, .int x2] [rW g adR (adX 10) (adN 0) R, xW g adX (adO 0) (adT 0) iX X, dW g Dd] (fun u => post u.1 u.2) (fun u => none) (fun u => [rW g adR (adX 10) (adN 0) (u.1), xW g adX (adO 0) (adT 0) iX X, dW g u.2]) (fun E q u => E = "EverybodyHasTheBook$Fault" ∧ q = u.1 ∧ postX u.2.1 u.2.2.1 u.2.2.2) (fun u => [rW g adR (adX 10) (adN 0) (u.2.2.1), xW g adX (adO 0) (adT 0) iX X, dW g u.2.2.2, [(u.1, .inr (12, xRf u.2.1))]]) := by
  refine b_metX (by decide) (Nat.le_of_ble_eq_true rfl) ?_
  intro p e s m args below meth c A Q ls hx hb hml hr hlk hown hname hts hno hE hl hW
  revert hW; generalize s.heap = H; intro hW
  have hl : lv_has ls 3 [(0, .ref (adR 0)), (1, .int x1), (2, .int x2)] := hl
  rw [f_X11_room] at hf
  refine lv_iload_n hx hb dX11_room_0 rfl (lv_at hl 1 rfl) ?_
  refine lv_iload_n hx hb dX11_room_1 rfl (lv_at hl 2 rfl) ?_
  refine lv_icmp_ne (tgt := 10) hx hb dX11_room_2 (by decide) (fun c1 => ?_) (fun c1 => ?_)
  · have hf := q_f hf c1
    refine lv_aload_n hx hb dX11_room_10 rfl (lv_at hl 0 rfl) ?_
    have hp2 : List.Perm ([rW g adR (adX 10) (adN 0) R, xW g adX (adO 0) (adT 0) iX X, dW g Dd] : List va_W) ([rW g adR (adX 10) (adN 0) R, xW g adX (adO 0) (adT 0) iX X] ++ [dW g Dd]) := b_perm [0, 1] [2] 3 rfl rfl rfl rfl
    refine b_call (va_runV (As := []) (rest := []) ⟨hx, hb, hml, hown, hts⟩ (m_X11_next l D g H.size adR adX adN adO adT iX fu R X _ hf) (cwV 0 hts (lw_V q769 q771 qs7 q100 q772) rfl rfl rfl (by decide +kernel) ⟨Nat.le_of_ble_eq_true rfl, Nat.le_of_ble_eq_true rfl⟩) (b_preV (pp := 0) (q := 0) hW hp2 rfl rW_0 rfl) rfl rfl hl.1 rfl (lv_room (Nat.le_of_ble_eq_true rfl)) dX11_room_11 ⟨Nat.le_of_ble_eq_true rfl, Nat.le_of_ble_eq_true rfl⟩) hW hp2 (fun u2 hf H locs hW => ?_)
    obtain ⟨R3, D4⟩ := u2; try dsimp only at hf hW
    refine W.cs (cells' := 6) (slots' := 202) rfl rfl ?_
    have hW : bW D g A s H locs [rW g adR (adX 10) (adN 0) R3, xW g adX (adO 0) (adT 0) iX X, dW g D4, dW g Dd] := hW
    have hW := b_sub (Bs' := [rW g adR (adX 10) (adN 0) R3, xW g adX (adO 0) (adT 0) iX X, dW g D4]) (wr := [dW g Dd]) hW (b_ord [0, 1, 2, 3] 4 rfl rfl rfl)
    have hW : bW D g A s H locs [rW g adR (adX 10) (adN 0) R3, xW g adX (adO 0) (adT 0) iX X, dW g D4] := hW
    refine b_toQ hE (fun Q hE => ?_)
    refine W.widen (k := 6) (n := 202) (by decide) (by decide) ?_
    exact b_vret hx hb hr hlk hE hW (R3, D4) rfl hf rfl dX11_room_14
  · have hf := q_t hf c1
    refine lv_aload_n hx hb dX11_room_5 rfl (lv_at hl 0 rfl) ?_
    have hp5 : List.Perm ([rW g adR (adX 10) (adN 0) R, xW g adX (adO 0) (adT 0) iX X, dW g Dd] : List va_W) ([rW g adR (adX 10) (adN 0) R] ++ [xW g adX (adO 0) (adT 0) iX X, dW g Dd]) := b_perm [0] [1, 2] 3 rfl rfl rfl rfl
    refine b_call (va_runV (As := []) (rest := []) ⟨hx, hb, hml, hown, hts⟩ (m_X11_wrong l D g H.size adR (adX 10) (adN 0) R) (cwV 0 hts (lw_V q968 q970 qs10 q100 q971) rfl rfl rfl (by decide +kernel) ⟨Nat.le_of_ble_eq_true rfl, Nat.le_of_ble_eq_true rfl⟩) (b_preV (pp := 0) (q := 0) hW hp5 rfl rW_0 rfl) rfl rfl hl.1 rfl (lv_room (Nat.le_of_ble_eq_true rfl)) dX11_room_6 ⟨Nat.le_of_ble_eq_true rfl, Nat.le_of_ble_eq_true rfl⟩) hW hp5 (fun zF6 _ H locs hW => ?_)
    refine W.cs (cells' := 1) (slots' := 7) rfl rfl ?_
    have hW : bW D g A s H locs [rW g adR (adX 10) (adN 0) R, [(zF6, .inr (12, xRf (R.1 0 2)))], xW g adX (adO 0) (adT 0) iX X, dW g Dd] := hW
    refine vx_athrow hx hb dX11_room_9 ?_
    obtain ⟨ce6, hcell, hcv, hcl⟩ := b_xcell hW (pp := 1) (q := 0) (ci := 12) rfl rfl rfl
    exact b_outX hE hlk hno (b_perms hW (b_ord [0, 2, 3, 1] 4 rfl rfl rfl)) (zF6, (R.1 0 2), R, Dd) rfl hcell hcv hcl ⟨rfl, rfl, hf⟩ (Nat.le_of_ble_eq_true rfl) (Nat.le_of_ble_eq_true rfl)
def f_X11_inn (fu : Nat) (g : Nat → Nat) (R : BC) (X : BC) (N : BC) (Dd : Option DT) (post : BC → BC → (Option DT) → Prop) (postX : Int32 → BC → BC → (Option DT) → Prop) : Prop :=
 f_X11_room fu g R X Dd (N.1 0 0) 6 (fun (R5 : BC) (D6 : (Option DT)) =>
 f_X11_number fu g R5 X D6 0 100 (fun (r11 : Int32) (R12 : BC) (D13 : (Option DT)) =>
 f_X11_number fu g R12 X D13 1 20 (fun (r18 : Int32) (R19 : BC) (D20 : (Option DT)) =>
 f_X11_number fu g R19 X D20 0 99 (fun (r25 : Int32) (R26 : BC) (D27 : (Option DT)) =>
 q_b1 (f_X1_adds N r11 r18 r25) fun (N28 : BC) =>
 f_X11_takes fu g R26 X D27 0 (fun (r30 : Int32) (R31 : BC) (D32 : (Option DT)) =>
 (if r30 = 0 then
 post R31 N28 D32
 else
 f_X11_number fu g R31 X D32 0 100 (fun (r38 : Int32) (R39 : BC) (D40 : (Option DT)) =>
 q_ck (inB ((N28.1 0 0) - 1) 6) (q_lt (bI N28 5 (upd (N28.1 5) (ix ((N28.1 0 0) - 1)) r38)) fun (N42 : BC) =>
 post R39 N42 D40)) (fun (by37 : Int32) (R35 : BC) (D36 : (Option DT)) => postX by37 R35 N28 D36))) ) (fun (by24 : Int32) (R22 : BC) (D23 : (Option DT)) => postX by24 R22 N D23)) (fun (by17 : Int32) (R15 : BC) (D16 : (Option DT)) => postX by17 R15 N D16)) (fun (by10 : Int32) (R8 : BC) (D9 : (Option DT)) => postX by10 R8 N D9)) (fun (by4 : Int32) (R2 : BC) (D3 : (Option DT)) => postX by4 R2 N D3)
abbrev rm_X11_inn : Room := { frames := 8, cells := 36, slots := 1212, locals := 219 }
set_option maxHeartbeats 4000000 in
set_option maxRecDepth 100000 in
theorem m_X11_inn (l : Launch) (D : va_G) (g : Nat → ClassId) (sz : Nat) (adR : Nat → Nat) (adX : Nat → Nat) (iX : Option Nat) (adN : Nat → Nat) (adT : Nat → Nat) (adO : Nat → Nat) (fu : Nat) (R : BC) (X : BC) (N : BC) (Dd : Option DT) (post : BC → BC → (Option DT) → Prop) (postX : Int32 → BC → BC → (Option DT) → Prop) (hf : f_X11_inn fu g R X N Dd post postX) : bxMet (S := BC × BC × (Option DT)) (SX := Nat × Int32 × BC × BC × (Option DT)) l yX11_inn (ws_ yX11_inn cX11_inn 3 none) rm_X11_inn D g sz [.ref (adR 0)] [rW g adR (adX 10) (adN 0) R, xW g adX (adO 0) (adT 0) iX X, vW g adN N, dW g Dd] (fun u => post u.1 u.2.1 u.2.2) (fun u => none) (fun u => [rW g adR (adX 10) (adN 0) (u.1), xW g adX (adO 0) (adT 0) iX X, vW g adN (u.2.1), dW g u.2.2]) (fun E q u => E = "EverybodyHasTheBook$Fault" ∧ q = u.1 ∧ postX u.2.1 u.2.2.1 u.2.2.2.1 u.2.2.2.2) (fun u => [rW g adR (adX 10) (adN 0) (u.2.2.1), xW g adX (adO 0) (adT 0) iX X, vW g adN (u.2.2.2.1), dW g u.2.2.2.2, [(u.1, .inr (12, xRf u.2.1))]]) := by
  refine b_metX (by decide) (Nat.le_of_ble_eq_true rfl) ?_
  intro p e s m args below meth c A Q ls hx hb hml hr hlk hown hname hts hno hE hl hW
  revert hW; generalize s.heap = H; intro hW
  have hl : lv_has ls 3 [(0, .ref (adR 0))] := hl
  rw [f_X11_inn] at hf
  refine lv_aload_n hx hb dX11_inn_0 rfl (lv_at hl 0 rfl) ?_
  refine lv_aload_n hx hb dX11_inn_1 rfl (lv_at hl 0 rfl) ?_
  refine b_get hx hb hts in_X11 hown hW 0 0 11 2 rfl rW_0 rfl (by decide) ⟨rfl, rfl, rfl⟩ (hts _ q744) rW_g2 dX11_inn_2 ?_
  refine b_get hx hb hts in_X1 hown hW 2 0 1 12 rfl vW_0 rfl (by decide) ⟨rfl, rfl, rfl⟩ (hts _ q166) vW_g12 dX11_inn_5 ?_
  refine lv_bipush (v := 6) hx hb dX11_inn_8 (by decide) ?_
  have hp1 : List.Perm ([rW g adR (adX 10) (adN 0) R, xW g adX (adO 0) (adT 0) iX X, vW g adN N, dW g Dd] : List va_W) ([rW g adR (adX 10) (adN 0) R, xW g adX (adO 0) (adT 0) iX X, dW g Dd] ++ [vW g adN N]) := b_perm [0, 1, 3] [2] 4 rfl rfl rfl rfl
  refine b_callX (vx_runV (As := [.int (N.1 0 0), .int 6]) (rest := []) ⟨hx, hb, hml, hown, hts⟩ (m_X11_room l D g H.size adR adX iX adN adT adO fu R X Dd (N.1 0 0) 6 _ _ hf) (cwV 2 hts (lw_V q1061 q1063 qs12 q100 q1064) rfl rfl rfl (by decide +kernel) ⟨Nat.le_of_ble_eq_true rfl, Nat.le_of_ble_eq_true rfl⟩) (b_preV (pp := 0) (q := 0) hW hp1 rfl rW_0 rfl) rfl rfl hl.1 rfl (lv_room (Nat.le_of_ble_eq_true rfl)) dX11_inn_10 ⟨Nat.le_of_ble_eq_true rfl, Nat.le_of_ble_eq_true rfl⟩) hW hp1 (fun E q1 ce1 u1 hok H locs hW hcell hcv hcl => ?_) (fun u1 hf H locs hW => ?_)
  · try dsimp only at hok hW
    obtain ⟨z9, by4, R2, D3⟩ := u1
    obtain ⟨hE9, hq9, hf⟩ := hok; (try dsimp only at hq9 hf hW); subst hE9; subst hq9
    have hW : bW D g A s H locs [rW g adR (adX 10) (adN 0) R2, xW g adX (adO 0) (adT 0) iX X, dW g D3, [(q1, .inr (12, xRf by4))], vW g adN N] := hW
    exact b_outX hE hlk hno (b_perms hW (b_ord [0, 1, 4, 2, 3] 5 rfl rfl rfl)) (q1, by4, R2, N, D3) rfl hcell hcv hcl ⟨rfl, rfl, hf⟩ (Nat.le_of_ble_eq_true rfl) (Nat.le_of_ble_eq_true rfl)
  · try dsimp only at hf hW
    obtain ⟨R5, D6⟩ := u1
    try dsimp only at hf hW ⊢
    refine W.cs (cells' := 6) (slots' := 202) rfl rfl ?_
    have hW : bW D g A s H locs [rW g adR (adX 10) (adN 0) R5, xW g adX (adO 0) (adT 0) iX X, dW g D6, vW g adN N] := hW
    refine lv_aload_n hx hb dX11_inn_13 rfl (lv_at hl 0 rfl) ?_
    refine lv_iconst (v := 0) hx hb dX11_inn_14 (by decide) ?_
    refine lv_bipush (v := 100) hx hb dX11_inn_15 (by decide) ?_
    have hp7 : List.Perm ([rW g adR (adX 10) (adN 0) R5, xW g adX (adO 0) (adT 0) iX X, dW g D6, vW g adN N] : List va_W) ([rW g adR (adX 10) (adN 0) R5, xW g adX (adO 0) (adT 0) iX X, dW g D6] ++ [vW g adN N]) := b_perm [0, 1, 2] [3] 4 rfl rfl rfl rfl
    refine b_callX (vx_runV (As := [.int 0, .int 100]) (rest := []) ⟨hx, hb, hml, hown, hts⟩ (m_X11_number l D g H.size adR adX iX adN adT adO fu R5 X D6 0 100 _ _ hf) (cwV 2 hts (lw_V q1065 q1067 qs13 q100 q1068) rfl rfl rfl (by decide +kernel) ⟨Nat.le_of_ble_eq_true rfl, Nat.le_of_ble_eq_true rfl⟩) (b_preV (pp := 0) (q := 0) hW hp7 rfl rW_0 rfl) rfl rfl hl.1 rfl (lv_room (Nat.le_of_ble_eq_true rfl)) dX11_inn_17 ⟨Nat.le_of_ble_eq_true rfl, Nat.le_of_ble_eq_true rfl⟩) hW hp7 (fun E q7 ce7 u7 hok H locs hW hcell hcv hcl => ?_) (fun u7 hf H locs hW => ?_)
    · try dsimp only at hok hW
      obtain ⟨z9, by10, R8, D9⟩ := u7
      obtain ⟨hE9, hq9, hf⟩ := hok; (try dsimp only at hq9 hf hW); subst hE9; subst hq9
      have hW : bW D g A s H locs [rW g adR (adX 10) (adN 0) R8, xW g adX (adO 0) (adT 0) iX X, dW g D9, [(q7, .inr (12, xRf by10))], vW g adN N] := hW
      exact b_outX hE hlk hno (b_perms hW (b_ord [0, 1, 4, 2, 3] 5 rfl rfl rfl)) (q7, by10, R8, N, D9) rfl hcell hcv hcl ⟨rfl, rfl, hf⟩ (Nat.le_of_ble_eq_true rfl) (Nat.le_of_ble_eq_true rfl)
    · try dsimp only at hf hW
      obtain ⟨r11, R12, D13⟩ := u7
      try dsimp only at hf hW ⊢
      refine W.cs (cells' := 12) (slots' := 404) rfl rfl ?_
      have hW : bW D g A s H locs [rW g adR (adX 10) (adN 0) R12, xW g adX (adO 0) (adT 0) iX X, dW g D13, vW g adN N] := hW
      refine lv_istore_n (lv' := [(1, .int r11), (0, .ref (adR 0))]) hx hb dX11_inn_20 rfl hl (by decide) rfl (fun ls hl => ?_)
      refine lv_aload_n hx hb dX11_inn_21 rfl (lv_at hl 1 rfl) ?_
      refine lv_iconst (v := 1) hx hb dX11_inn_22 (by decide) ?_
      refine lv_bipush (v := 20) hx hb dX11_inn_23 (by decide) ?_
      have hp14 : List.Perm ([rW g adR (adX 10) (adN 0) R12, xW g adX (adO 0) (adT 0) iX X, dW g D13, vW g adN N] : List va_W) ([rW g adR (adX 10) (adN 0) R12, xW g adX (adO 0) (adT 0) iX X, dW g D13] ++ [vW g adN N]) := b_perm [0, 1, 2] [3] 4 rfl rfl rfl rfl
      refine b_callX (vx_runV (As := [.int 1, .int 20]) (rest := []) ⟨hx, hb, hml, hown, hts⟩ (m_X11_number l D g H.size adR adX iX adN adT adO fu R12 X D13 1 20 _ _ hf) (cwV 2 hts (lw_V q1065 q1067 qs13 q100 q1068) rfl rfl rfl (by decide +kernel) ⟨Nat.le_of_ble_eq_true rfl, Nat.le_of_ble_eq_true rfl⟩) (b_preV (pp := 0) (q := 0) hW hp14 rfl rW_0 rfl) rfl rfl hl.1 rfl (lv_room (Nat.le_of_ble_eq_true rfl)) dX11_inn_25 ⟨Nat.le_of_ble_eq_true rfl, Nat.le_of_ble_eq_true rfl⟩) hW hp14 (fun E q14 ce14 u14 hok H locs hW hcell hcv hcl => ?_) (fun u14 hf H locs hW => ?_)
      · try dsimp only at hok hW
        obtain ⟨z9, by17, R15, D16⟩ := u14
        obtain ⟨hE9, hq9, hf⟩ := hok; (try dsimp only at hq9 hf hW); subst hE9; subst hq9
        have hW : bW D g A s H locs [rW g adR (adX 10) (adN 0) R15, xW g adX (adO 0) (adT 0) iX X, dW g D16, [(q14, .inr (12, xRf by17))], vW g adN N] := hW
        exact b_outX hE hlk hno (b_perms hW (b_ord [0, 1, 4, 2, 3] 5 rfl rfl rfl)) (q14, by17, R15, N, D16) rfl hcell hcv hcl ⟨rfl, rfl, hf⟩ (Nat.le_of_ble_eq_true rfl) (Nat.le_of_ble_eq_true rfl)
      · try dsimp only at hf hW
        obtain ⟨r18, R19, D20⟩ := u14
        try dsimp only at hf hW ⊢
        refine W.cs (cells' := 18) (slots' := 606) rfl rfl ?_
        have hW : bW D g A s H locs [rW g adR (adX 10) (adN 0) R19, xW g adX (adO 0) (adT 0) iX X, dW g D20, vW g adN N] := hW
        refine lv_istore_n (lv' := [(2, .int r18), (1, .int r11), (0, .ref (adR 0))]) hx hb dX11_inn_28 rfl hl (by decide) rfl (fun ls hl => ?_)
        refine lv_aload_n hx hb dX11_inn_29 rfl (lv_at hl 2 rfl) ?_
        refine b_get hx hb hts in_X11 hown hW 0 0 11 2 rfl rW_0 rfl (by decide) ⟨rfl, rfl, rfl⟩ (hts _ q744) rW_g2 dX11_inn_30 ?_
        refine lv_iload_n hx hb dX11_inn_33 rfl (lv_at hl 1 rfl) ?_
        refine lv_iload_n hx hb dX11_inn_34 rfl (lv_at hl 0 rfl) ?_
        refine lv_aload_n hx hb dX11_inn_35 rfl (lv_at hl 2 rfl) ?_
        refine lv_iconst (v := 0) hx hb dX11_inn_36 (by decide) ?_
        refine lv_bipush (v := 99) hx hb dX11_inn_37 (by decide) ?_
        have hp21 : List.Perm ([rW g adR (adX 10) (adN 0) R19, xW g adX (adO 0) (adT 0) iX X, dW g D20, vW g adN N] : List va_W) ([rW g adR (adX 10) (adN 0) R19, xW g adX (adO 0) (adT 0) iX X, dW g D20] ++ [vW g adN N]) := b_perm [0, 1, 2] [3] 4 rfl rfl rfl rfl
        refine b_callX (vx_runV (As := [.int 0, .int 99]) (rest := [.int r18, .int r11, .ref (adN 0)]) ⟨hx, hb, hml, hown, hts⟩ (m_X11_number l D g H.size adR adX iX adN adT adO fu R19 X D20 0 99 _ _ hf) (cwV 2 hts (lw_V q1065 q1067 qs13 q100 q1068) rfl rfl rfl (by decide +kernel) ⟨Nat.le_of_ble_eq_true rfl, Nat.le_of_ble_eq_true rfl⟩) (b_preV (pp := 0) (q := 0) hW hp21 rfl rW_0 rfl) rfl rfl hl.1 rfl (lv_room (Nat.le_of_ble_eq_true rfl)) dX11_inn_39 ⟨Nat.le_of_ble_eq_true rfl, Nat.le_of_ble_eq_true rfl⟩) hW hp21 (fun E q21 ce21 u21 hok H locs hW hcell hcv hcl => ?_) (fun u21 hf H locs hW => ?_)
        · try dsimp only at hok hW
          obtain ⟨z9, by24, R22, D23⟩ := u21
          obtain ⟨hE9, hq9, hf⟩ := hok; (try dsimp only at hq9 hf hW); subst hE9; subst hq9
          have hW : bW D g A s H locs [rW g adR (adX 10) (adN 0) R22, xW g adX (adO 0) (adT 0) iX X, dW g D23, [(q21, .inr (12, xRf by24))], vW g adN N] := hW
          exact b_outX hE hlk hno (b_perms hW (b_ord [0, 1, 4, 2, 3] 5 rfl rfl rfl)) (q21, by24, R22, N, D23) rfl hcell hcv hcl ⟨rfl, rfl, hf⟩ (Nat.le_of_ble_eq_true rfl) (Nat.le_of_ble_eq_true rfl)
        · try dsimp only at hf hW
          obtain ⟨r25, R26, D27⟩ := u21
          try dsimp only at hf hW ⊢
          refine W.cs (cells' := 24) (slots' := 808) rfl rfl ?_
          have hW : bW D g A s H locs [rW g adR (adX 10) (adN 0) R26, xW g adX (adO 0) (adT 0) iX X, dW g D27, vW g adN N] := hW
          obtain ⟨N28, hc28, hf⟩ := q_b1s hf
          have hp28 : List.Perm [rW g adR (adX 10) (adN 0) R26, xW g adX (adO 0) (adT 0) iX X, dW g D27, vW g adN N] ([vW g adN N] ++ [rW g adR (adX 10) (adN 0) R26, xW g adX (adO 0) (adT 0) iX X, dW g D27]) := b_perm [3] [0, 1, 2] 4 rfl rfl rfl rfl
          refine b_call0 ⟨rfl, rfl⟩ (va_runV (As := [.int r11, .int r18, .int r25]) (rest := []) ⟨hx, hb, hml, hown, hts⟩ (m_X1_adds l D g H.size adN N r11 r18 r25 N28 hc28) (cwV 3 hts (lw_V q1069 q600 q601 q77 q602) rfl rfl rfl (by decide +kernel) ⟨Nat.le_of_ble_eq_true rfl, Nat.le_of_ble_eq_true rfl⟩) (b_preV (pp := 3) (q := 0) hW hp28 rfl vW_0 rfl) rfl rfl hl.1 rfl (lv_room (Nat.le_of_ble_eq_true rfl)) dX11_inn_42 ⟨Nat.le_of_ble_eq_true rfl, Nat.le_of_ble_eq_true rfl⟩) hW hp28 (fun _ _ H locs hW => ?_)
          have hW : bW D g A s H locs [vW g adN N28, rW g adR (adX 10) (adN 0) R26, xW g adX (adO 0) (adT 0) iX X, dW g D27] := hW
          refine lv_aload_n hx hb dX11_inn_45 rfl (lv_at hl 2 rfl) ?_
          refine va_ldcS hx hb hown (b_kld hW (own := "EverybodyHasTheBook$Reader") (idx := 92) (tx := "said") (i := 0) 6 rfl) dX11_inn_46 ?_
          have hp29 : List.Perm ([vW g adN N28, rW g adR (adX 10) (adN 0) R26, xW g adX (adO 0) (adT 0) iX X, dW g D27] : List va_W) ([rW g adR (adX 10) (adN 0) R26, xW g adX (adO 0) (adT 0) iX X, dW g D27] ++ [vW g adN N28]) := b_perm [1, 2, 3] [0] 4 rfl rfl rfl rfl
          refine b_callX (vx_runV (As := [.ref (g (100 + 0))]) (rest := []) ⟨hx, hb, hml, hown, hts⟩ (m_X11_takes l D g H.size adR adX iX adN adT adO fu R26 X D27 0 _ (by decide) hf) (cwV 1 hts (lw_V q1071 q1073 qs14 q100 q1074) rfl rfl rfl (by decide +kernel) ⟨Nat.le_of_ble_eq_true rfl, Nat.le_of_ble_eq_true rfl⟩) (b_preV (pp := 1) (q := 0) hW hp29 rfl rW_0 rfl) rfl rfl hl.1 rfl (lv_room (Nat.le_of_ble_eq_true rfl)) dX11_inn_48 ⟨Nat.le_of_ble_eq_true rfl, Nat.le_of_ble_eq_true rfl⟩) hW hp29 (fun E q29 ce29 u29 hok H locs hW hcell hcv hcl => ?_) (fun u29 hf H locs hW => ?_)
          · exact hok.elim
          · try dsimp only at hf hW
            obtain ⟨r30, R31, D32⟩ := u29
            try dsimp only at hf hW ⊢
            refine W.cs (cells' := 30) (slots' := 1010) rfl rfl ?_
            have hW : bW D g A s H locs [rW g adR (adX 10) (adN 0) R31, xW g adX (adO 0) (adT 0) iX X, dW g D32, vW g adN N28] := hW
            refine lv_if_eq (tgt := 78) hx hb dX11_inn_51 (by decide) (fun c33 => ?_) (fun c33 => ?_)
            · have hf := q_t hf c33
              refine b_toQ hE (fun Q hE => ?_)
              refine W.widen (k := 36) (n := 1212) (by decide) (by decide) ?_
              exact b_vret hx hb hr hlk hE (b_perms hW (b_ord [0, 1, 3, 2] 4 rfl rfl rfl)) (R31, N28, D32) rfl hf rfl dX11_inn_78
            · have hf := q_f hf c33
              refine lv_aload_n hx hb dX11_inn_54 rfl (lv_at hl 2 rfl) ?_
              refine b_get hx hb hts in_X11 hown hW 0 0 11 2 rfl rW_0 rfl (by decide) ⟨rfl, rfl, rfl⟩ (hts _ q744) rW_g2 dX11_inn_55 ?_
              refine b_get hx hb hts in_X1 hown hW 3 0 1 4 rfl vW_0 rfl (by decide) ⟨rfl, rfl, rfl⟩ (hts _ q144) vW_g4 dX11_inn_58 ?_
              refine lv_aload_n hx hb dX11_inn_61 rfl (lv_at hl 2 rfl) ?_
              refine b_get hx hb hts in_X11 hown hW 0 0 11 2 rfl rW_0 rfl (by decide) ⟨rfl, rfl, rfl⟩ (hts _ q744) rW_g2 dX11_inn_62 ?_
              refine b_get hx hb hts in_X1 hown hW 3 0 1 12 rfl vW_0 rfl (by decide) ⟨rfl, rfl, rfl⟩ (hts _ q166) vW_g12 dX11_inn_65 ?_
              refine lv_iconst (v := 1) hx hb dX11_inn_68 (by decide) ?_
              refine lv_isub hx hb dX11_inn_69 ?_
              refine lv_aload_n hx hb dX11_inn_70 rfl (lv_at hl 2 rfl) ?_
              refine lv_iconst (v := 0) hx hb dX11_inn_71 (by decide) ?_
              refine lv_bipush (v := 100) hx hb dX11_inn_72 (by decide) ?_
              have hp34 : List.Perm ([rW g adR (adX 10) (adN 0) R31, xW g adX (adO 0) (adT 0) iX X, dW g D32, vW g adN N28] : List va_W) ([rW g adR (adX 10) (adN 0) R31, xW g adX (adO 0) (adT 0) iX X, dW g D32] ++ [vW g adN N28]) := b_perm [0, 1, 2] [3] 4 rfl rfl rfl rfl
              refine b_callX (vx_runV (As := [.int 0, .int 100]) (rest := [.int ((N28.1 0 0) - 1), .ref (adN 5)]) ⟨hx, hb, hml, hown, hts⟩ (m_X11_number l D g H.size adR adX iX adN adT adO fu R31 X D32 0 100 _ _ hf) (cwV 2 hts (lw_V q1065 q1067 qs13 q100 q1068) rfl rfl rfl (by decide +kernel) ⟨Nat.le_of_ble_eq_true rfl, Nat.le_of_ble_eq_true rfl⟩) (b_preV (pp := 0) (q := 0) hW hp34 rfl rW_0 rfl) rfl rfl hl.1 rfl (lv_room (Nat.le_of_ble_eq_true rfl)) dX11_inn_74 ⟨Nat.le_of_ble_eq_true rfl, Nat.le_of_ble_eq_true rfl⟩) hW hp34 (fun E q34 ce34 u34 hok H locs hW hcell hcv hcl => ?_) (fun u34 hf H locs hW => ?_)
              · try dsimp only at hok hW
                obtain ⟨z9, by37, R35, D36⟩ := u34
                obtain ⟨hE9, hq9, hf⟩ := hok; (try dsimp only at hq9 hf hW); subst hE9; subst hq9
                have hW : bW D g A s H locs [rW g adR (adX 10) (adN 0) R35, xW g adX (adO 0) (adT 0) iX X, dW g D36, [(q34, .inr (12, xRf by37))], vW g adN N28] := hW
                exact b_outX hE hlk hno (b_perms hW (b_ord [0, 1, 4, 2, 3] 5 rfl rfl rfl)) (q34, by37, R35, N28, D36) rfl hcell hcv hcl ⟨rfl, rfl, hf⟩ (Nat.le_of_ble_eq_true rfl) (Nat.le_of_ble_eq_true rfl)
              · try dsimp only at hf hW
                obtain ⟨r38, R39, D40⟩ := u34
                try dsimp only at hf hW ⊢
                refine W.cs (cells' := 36) (slots' := 1212) rfl rfl ?_
                have hW : bW D g A s H locs [rW g adR (adX 10) (adN 0) R39, xW g adX (adO 0) (adT 0) iX X, dW g D40, vW g adN N28] := hW
                obtain ⟨h41, hf⟩ := q_cs hf
                obtain ⟨N42, eN42, hf⟩ := q_ls hf
                refine b_iast hx hb hW 3 5 rfl vW_5 (vW_s5 eN42) rfl h41 dX11_inn_77 (fun H locs hW => ?_)
                have hW : bW D g A s H locs [rW g adR (adX 10) (adN 0) R39, xW g adX (adO 0) (adT 0) iX X, dW g D40, vW g adN N42] := hW
                refine b_toQ hE (fun Q hE => ?_)
                refine W.widen (k := 36) (n := 1212) (by decide) (by decide) ?_
                exact b_vret hx hb hr hlk hE (b_perms hW (b_ord [0, 1, 3, 2] 4 rfl rfl rfl)) (R39, N42, D40) rfl hf rfl dX11_inn_78
def f_X11_goer (fu : Nat) (g : Nat → Nat) (R : BC) (X : BC) (N : BC) (L : List Nat) (kd : Nat → Nat) (nu : Nat → Int32) (aa : Nat → Int32) (Dd : Option DT) (post : BC → BC → List Nat → (Nat → Nat) → (Nat → Int32) → (Nat → Int32) → (Option DT) → Prop) (postX : Int32 → BC → BC → List Nat → (Nat → Nat) → (Nat → Int32) → (Nat → Int32) → (Option DT) → Prop) : Prop :=
 f_X11_room fu g R X Dd (N.1 0 1) 6 (fun (R5 : BC) (D6 : (Option DT)) =>
 f_X11_number fu g R5 X D6 0 5 (fun (r11 : Int32) (R12 : BC) (D13 : (Option DT)) =>
 f_X11_number fu g R12 X D13 1 30 (fun (r18 : Int32) (R19 : BC) (D20 : (Option DT)) =>
 f_X11_number fu g R19 X D20 0 99 (fun (r25 : Int32) (R26 : BC) (D27 : (Option DT)) =>
 q_b1 (f_X0_made r11) fun (k28 : Nat) => q_al L fun (z29 : Nat) => q_lt (z29 :: L) fun (L30 : List Nat) =>
 q_lt (fun q => if q = z29 then k28 else kd q) fun (kd31 : Nat → Nat) =>
 q_lt (fun q => if q = z29 then (N.1 0 1) else nu q) fun (nu32 : Nat → Int32) =>
 q_lt (fun q => if q = z29 then r25 else aa q) fun (aa33 : Nat → Int32) =>
 q_b1 (f_X1_adds_2 N L30 kd31 nu32 aa33 z29 r18) fun (N34 : BC) =>
 post R26 N34 L30 kd31 nu32 aa33 D27) (fun (by24 : Int32) (R22 : BC) (D23 : (Option DT)) => postX by24 R22 N L kd nu aa D23)) (fun (by17 : Int32) (R15 : BC) (D16 : (Option DT)) => postX by17 R15 N L kd nu aa D16)) (fun (by10 : Int32) (R8 : BC) (D9 : (Option DT)) => postX by10 R8 N L kd nu aa D9)) (fun (by4 : Int32) (R2 : BC) (D3 : (Option DT)) => postX by4 R2 N L kd nu aa D3)
abbrev rm_X11_goer : Room := { frames := 8, cells := 25, slots := 810, locals := 219 }
set_option maxHeartbeats 4000000 in
set_option maxRecDepth 100000 in
theorem m_X11_goer (l : Launch) (D : va_G) (g : Nat → ClassId) (sz : Nat) (adR : Nat → Nat) (adX : Nat → Nat) (iX : Option Nat) (adN : Nat → Nat) (adT : Nat → Nat) (adO : Nat → Nat) (fu : Nat) (R : BC) (X : BC) (N : BC) (L : List Nat) (kd : Nat → Nat) (nu : Nat → Int32) (aa : Nat → Int32) (Dd : Option DT) (post : BC → BC → List Nat → (Nat → Nat) → (Nat → Int32) → (Nat → Int32) → (Option DT) → Prop) (postX : Int32 → BC → BC → List Nat → (Nat → Nat) → (Nat → Int32) → (Nat → Int32) → (Option DT) → Prop) (hf : f_X11_goer fu g R X N L kd nu aa Dd post postX) : bxMet (S := BC × BC × List Nat × (Nat → Nat) × (Nat → Int32) × (Nat → Int32) × (Option DT)) (SX := Nat × Int32 × BC × BC × List Nat × (Nat → Nat) × (Nat → Int32) × (Nat → Int32) × (Option DT)) l yX11_goer (ws_ yX11_goer cX11_goer 3 none) rm_X11_goer D g sz [.ref (adR 0)] [rW g adR (adX 10) (adN 0) R, xW g adX (adO 0) (adT 0) iX X, vW g adN N, gW L kd nu aa, dW g Dd] (fun u => post u.1 u.2.1 u.2.2.1 u.2.2.2.1 u.2.2.2.2.1 u.2.2.2.2.2.1 u.2.2.2.2.2.2) (fun u => none) (fun u => [rW g adR (adX 10) (adN 0) (u.1), xW g adX (adO 0) (adT 0) iX X, vW g adN (u.2.1), gW u.2.2.1 u.2.2.2.1 u.2.2.2.2.1 u.2.2.2.2.2.1, dW g u.2.2.2.2.2.2]) (fun E q u => E = "EverybodyHasTheBook$Fault" ∧ q = u.1 ∧ postX u.2.1 u.2.2.1 u.2.2.2.1 u.2.2.2.2.1 u.2.2.2.2.2.1 u.2.2.2.2.2.2.1 u.2.2.2.2.2.2.2.1 u.2.2.2.2.2.2.2.2) (fun u => [rW g adR (adX 10) (adN 0) (u.2.2.1), xW g adX (adO 0) (adT 0) iX X, vW g adN (u.2.2.2.1), gW u.2.2.2.2.1 u.2.2.2.2.2.1 u.2.2.2.2.2.2.1 u.2.2.2.2.2.2.2.1, dW g u.2.2.2.2.2.2.2.2, [(u.1, .inr (12, xRf u.2.1))]]) := by
  refine b_metX (by decide) (Nat.le_of_ble_eq_true rfl) ?_
  intro p e s m args below meth c A Q ls hx hb hml hr hlk hown hname hts hno hE hl hW
  revert hW; generalize s.heap = H; intro hW
  have hl : lv_has ls 3 [(0, .ref (adR 0))] := hl
  rw [f_X11_goer] at hf
  refine lv_aload_n hx hb dX11_goer_0 rfl (lv_at hl 0 rfl) ?_
  refine lv_aload_n hx hb dX11_goer_1 rfl (lv_at hl 0 rfl) ?_
  refine b_get hx hb hts in_X11 hown hW 0 0 11 2 rfl rW_0 rfl (by decide) ⟨rfl, rfl, rfl⟩ (hts _ q744) rW_g2 dX11_goer_2 ?_
  refine b_get hx hb hts in_X1 hown hW 2 0 1 13 rfl vW_0 rfl (by decide) ⟨rfl, rfl, rfl⟩ (hts _ q169) vW_g13 dX11_goer_5 ?_
  refine lv_bipush (v := 6) hx hb dX11_goer_8 (by decide) ?_
  have hp1 : List.Perm ([rW g adR (adX 10) (adN 0) R, xW g adX (adO 0) (adT 0) iX X, vW g adN N, gW L kd nu aa, dW g Dd] : List va_W) ([rW g adR (adX 10) (adN 0) R, xW g adX (adO 0) (adT 0) iX X, dW g Dd] ++ [vW g adN N, gW L kd nu aa]) := b_perm [0, 1, 4] [2, 3] 5 rfl rfl rfl rfl
  refine b_callX (vx_runV (As := [.int (N.1 0 1), .int 6]) (rest := []) ⟨hx, hb, hml, hown, hts⟩ (m_X11_room l D g H.size adR adX iX adN adT adO fu R X Dd (N.1 0 1) 6 _ _ hf) (cwV 2 hts (lw_V q1061 q1063 qs12 q100 q1064) rfl rfl rfl (by decide +kernel) ⟨Nat.le_of_ble_eq_true rfl, Nat.le_of_ble_eq_true rfl⟩) (b_preV (pp := 0) (q := 0) hW hp1 rfl rW_0 rfl) rfl rfl hl.1 rfl (lv_room (Nat.le_of_ble_eq_true rfl)) dX11_goer_10 ⟨Nat.le_of_ble_eq_true rfl, Nat.le_of_ble_eq_true rfl⟩) hW hp1 (fun E q1 ce1 u1 hok H locs hW hcell hcv hcl => ?_) (fun u1 hf H locs hW => ?_)
  · try dsimp only at hok hW
    obtain ⟨z9, by4, R2, D3⟩ := u1
    obtain ⟨hE9, hq9, hf⟩ := hok; (try dsimp only at hq9 hf hW); subst hE9; subst hq9
    have hW : bW D g A s H locs [rW g adR (adX 10) (adN 0) R2, xW g adX (adO 0) (adT 0) iX X, dW g D3, [(q1, .inr (12, xRf by4))], vW g adN N, gW L kd nu aa] := hW
    exact b_outX hE hlk hno (b_perms hW (b_ord [0, 1, 4, 5, 2, 3] 6 rfl rfl rfl)) (q1, by4, R2, N, L, kd, nu, aa, D3) rfl hcell hcv hcl ⟨rfl, rfl, hf⟩ (Nat.le_of_ble_eq_true rfl) (Nat.le_of_ble_eq_true rfl)
  · try dsimp only at hf hW
    obtain ⟨R5, D6⟩ := u1
    try dsimp only at hf hW ⊢
    refine W.cs (cells' := 6) (slots' := 202) rfl rfl ?_
    have hW : bW D g A s H locs [rW g adR (adX 10) (adN 0) R5, xW g adX (adO 0) (adT 0) iX X, dW g D6, vW g adN N, gW L kd nu aa] := hW
    refine lv_aload_n hx hb dX11_goer_13 rfl (lv_at hl 0 rfl) ?_
    refine lv_iconst (v := 0) hx hb dX11_goer_14 (by decide) ?_
    refine lv_iconst (v := 5) hx hb dX11_goer_15 (by decide) ?_
    have hp7 : List.Perm ([rW g adR (adX 10) (adN 0) R5, xW g adX (adO 0) (adT 0) iX X, dW g D6, vW g adN N, gW L kd nu aa] : List va_W) ([rW g adR (adX 10) (adN 0) R5, xW g adX (adO 0) (adT 0) iX X, dW g D6] ++ [vW g adN N, gW L kd nu aa]) := b_perm [0, 1, 2] [3, 4] 5 rfl rfl rfl rfl
    refine b_callX (vx_runV (As := [.int 0, .int 5]) (rest := []) ⟨hx, hb, hml, hown, hts⟩ (m_X11_number l D g H.size adR adX iX adN adT adO fu R5 X D6 0 5 _ _ hf) (cwV 2 hts (lw_V q1065 q1067 qs13 q100 q1068) rfl rfl rfl (by decide +kernel) ⟨Nat.le_of_ble_eq_true rfl, Nat.le_of_ble_eq_true rfl⟩) (b_preV (pp := 0) (q := 0) hW hp7 rfl rW_0 rfl) rfl rfl hl.1 rfl (lv_room (Nat.le_of_ble_eq_true rfl)) dX11_goer_16 ⟨Nat.le_of_ble_eq_true rfl, Nat.le_of_ble_eq_true rfl⟩) hW hp7 (fun E q7 ce7 u7 hok H locs hW hcell hcv hcl => ?_) (fun u7 hf H locs hW => ?_)
    · try dsimp only at hok hW
      obtain ⟨z9, by10, R8, D9⟩ := u7
      obtain ⟨hE9, hq9, hf⟩ := hok; (try dsimp only at hq9 hf hW); subst hE9; subst hq9
      have hW : bW D g A s H locs [rW g adR (adX 10) (adN 0) R8, xW g adX (adO 0) (adT 0) iX X, dW g D9, [(q7, .inr (12, xRf by10))], vW g adN N, gW L kd nu aa] := hW
      exact b_outX hE hlk hno (b_perms hW (b_ord [0, 1, 4, 5, 2, 3] 6 rfl rfl rfl)) (q7, by10, R8, N, L, kd, nu, aa, D9) rfl hcell hcv hcl ⟨rfl, rfl, hf⟩ (Nat.le_of_ble_eq_true rfl) (Nat.le_of_ble_eq_true rfl)
    · try dsimp only at hf hW
      obtain ⟨r11, R12, D13⟩ := u7
      try dsimp only at hf hW ⊢
      refine W.cs (cells' := 12) (slots' := 404) rfl rfl ?_
      have hW : bW D g A s H locs [rW g adR (adX 10) (adN 0) R12, xW g adX (adO 0) (adT 0) iX X, dW g D13, vW g adN N, gW L kd nu aa] := hW
      refine lv_istore_n (lv' := [(1, .int r11), (0, .ref (adR 0))]) hx hb dX11_goer_19 rfl hl (by decide) rfl (fun ls hl => ?_)
      refine lv_aload_n hx hb dX11_goer_20 rfl (lv_at hl 1 rfl) ?_
      refine lv_iconst (v := 1) hx hb dX11_goer_21 (by decide) ?_
      refine lv_bipush (v := 30) hx hb dX11_goer_22 (by decide) ?_
      have hp14 : List.Perm ([rW g adR (adX 10) (adN 0) R12, xW g adX (adO 0) (adT 0) iX X, dW g D13, vW g adN N, gW L kd nu aa] : List va_W) ([rW g adR (adX 10) (adN 0) R12, xW g adX (adO 0) (adT 0) iX X, dW g D13] ++ [vW g adN N, gW L kd nu aa]) := b_perm [0, 1, 2] [3, 4] 5 rfl rfl rfl rfl
      refine b_callX (vx_runV (As := [.int 1, .int 30]) (rest := []) ⟨hx, hb, hml, hown, hts⟩ (m_X11_number l D g H.size adR adX iX adN adT adO fu R12 X D13 1 30 _ _ hf) (cwV 2 hts (lw_V q1065 q1067 qs13 q100 q1068) rfl rfl rfl (by decide +kernel) ⟨Nat.le_of_ble_eq_true rfl, Nat.le_of_ble_eq_true rfl⟩) (b_preV (pp := 0) (q := 0) hW hp14 rfl rW_0 rfl) rfl rfl hl.1 rfl (lv_room (Nat.le_of_ble_eq_true rfl)) dX11_goer_24 ⟨Nat.le_of_ble_eq_true rfl, Nat.le_of_ble_eq_true rfl⟩) hW hp14 (fun E q14 ce14 u14 hok H locs hW hcell hcv hcl => ?_) (fun u14 hf H locs hW => ?_)
      · try dsimp only at hok hW
        obtain ⟨z9, by17, R15, D16⟩ := u14
        obtain ⟨hE9, hq9, hf⟩ := hok; (try dsimp only at hq9 hf hW); subst hE9; subst hq9
        have hW : bW D g A s H locs [rW g adR (adX 10) (adN 0) R15, xW g adX (adO 0) (adT 0) iX X, dW g D16, [(q14, .inr (12, xRf by17))], vW g adN N, gW L kd nu aa] := hW
        exact b_outX hE hlk hno (b_perms hW (b_ord [0, 1, 4, 5, 2, 3] 6 rfl rfl rfl)) (q14, by17, R15, N, L, kd, nu, aa, D16) rfl hcell hcv hcl ⟨rfl, rfl, hf⟩ (Nat.le_of_ble_eq_true rfl) (Nat.le_of_ble_eq_true rfl)
      · try dsimp only at hf hW
        obtain ⟨r18, R19, D20⟩ := u14
        try dsimp only at hf hW ⊢
        refine W.cs (cells' := 18) (slots' := 606) rfl rfl ?_
        have hW : bW D g A s H locs [rW g adR (adX 10) (adN 0) R19, xW g adX (adO 0) (adT 0) iX X, dW g D20, vW g adN N, gW L kd nu aa] := hW
        refine lv_istore_n (lv' := [(2, .int r18), (1, .int r11), (0, .ref (adR 0))]) hx hb dX11_goer_27 rfl hl (by decide) rfl (fun ls hl => ?_)
        refine lv_aload_n hx hb dX11_goer_28 rfl (lv_at hl 2 rfl) ?_
        refine b_get hx hb hts in_X11 hown hW 0 0 11 2 rfl rW_0 rfl (by decide) ⟨rfl, rfl, rfl⟩ (hts _ q744) rW_g2 dX11_goer_29 ?_
        refine lv_iload_n hx hb dX11_goer_32 rfl (lv_at hl 1 rfl) ?_
        refine lv_aload_n hx hb dX11_goer_33 rfl (lv_at hl 2 rfl) ?_
        refine b_get hx hb hts in_X11 hown hW 0 0 11 2 rfl rW_0 rfl (by decide) ⟨rfl, rfl, rfl⟩ (hts _ q744) rW_g2 dX11_goer_34 ?_
        refine b_get hx hb hts in_X1 hown hW 3 0 1 13 rfl vW_0 rfl (by decide) ⟨rfl, rfl, rfl⟩ (hts _ q169) vW_g13 dX11_goer_37 ?_
        refine lv_aload_n hx hb dX11_goer_40 rfl (lv_at hl 2 rfl) ?_
        refine lv_iconst (v := 0) hx hb dX11_goer_41 (by decide) ?_
        refine lv_bipush (v := 99) hx hb dX11_goer_42 (by decide) ?_
        have hp21 : List.Perm ([rW g adR (adX 10) (adN 0) R19, xW g adX (adO 0) (adT 0) iX X, dW g D20, vW g adN N, gW L kd nu aa] : List va_W) ([rW g adR (adX 10) (adN 0) R19, xW g adX (adO 0) (adT 0) iX X, dW g D20] ++ [vW g adN N, gW L kd nu aa]) := b_perm [0, 1, 2] [3, 4] 5 rfl rfl rfl rfl
        refine b_callX (vx_runV (As := [.int 0, .int 99]) (rest := [.int (N.1 0 1), .int r11, .ref (adN 0)]) ⟨hx, hb, hml, hown, hts⟩ (m_X11_number l D g H.size adR adX iX adN adT adO fu R19 X D20 0 99 _ _ hf) (cwV 2 hts (lw_V q1065 q1067 qs13 q100 q1068) rfl rfl rfl (by decide +kernel) ⟨Nat.le_of_ble_eq_true rfl, Nat.le_of_ble_eq_true rfl⟩) (b_preV (pp := 0) (q := 0) hW hp21 rfl rW_0 rfl) rfl rfl hl.1 rfl (lv_room (Nat.le_of_ble_eq_true rfl)) dX11_goer_44 ⟨Nat.le_of_ble_eq_true rfl, Nat.le_of_ble_eq_true rfl⟩) hW hp21 (fun E q21 ce21 u21 hok H locs hW hcell hcv hcl => ?_) (fun u21 hf H locs hW => ?_)
        · try dsimp only at hok hW
          obtain ⟨z9, by24, R22, D23⟩ := u21
          obtain ⟨hE9, hq9, hf⟩ := hok; (try dsimp only at hq9 hf hW); subst hE9; subst hq9
          have hW : bW D g A s H locs [rW g adR (adX 10) (adN 0) R22, xW g adX (adO 0) (adT 0) iX X, dW g D23, [(q21, .inr (12, xRf by24))], vW g adN N, gW L kd nu aa] := hW
          exact b_outX hE hlk hno (b_perms hW (b_ord [0, 1, 4, 5, 2, 3] 6 rfl rfl rfl)) (q21, by24, R22, N, L, kd, nu, aa, D23) rfl hcell hcv hcl ⟨rfl, rfl, hf⟩ (Nat.le_of_ble_eq_true rfl) (Nat.le_of_ble_eq_true rfl)
        · try dsimp only at hf hW
          obtain ⟨r25, R26, D27⟩ := u21
          try dsimp only at hf hW ⊢
          refine W.cs (cells' := 24) (slots' := 808) rfl rfl ?_
          have hW : bW D g A s H locs [rW g adR (adX 10) (adN 0) R26, xW g adX (adO 0) (adT 0) iX X, dW g D27, vW g adN N, gW L kd nu aa] := hW
          obtain ⟨k28, hc28, hf⟩ := q_b1s hf
          have hp29 : List.Perm ([rW g adR (adX 10) (adN 0) R26, xW g adX (adO 0) (adT 0) iX X, dW g D27, vW g adN N, gW L kd nu aa] : List va_W) ([] ++ [rW g adR (adX 10) (adN 0) R26, xW g adX (adO 0) (adT 0) iX X, dW g D27, vW g adN N, gW L kd nu aa]) := List.Perm.refl _
          refine b_call (va_runSN (As := [.int r11, .int (N.1 0 1), .int r25]) (rest := [.ref (adN 0)]) ⟨hx, hb, hml, hown, hts⟩ (m_X0_made l D g H.size r11 (N.1 0 1) r25 k28 hc28) ⟨va_cnB 3 hts (lw_meth q609) rfl rfl rfl (hW.2.2.2.2.2.1 _ (List.mem_of_getElem? (i := 5) rfl)) (hts _ q76) (by decide +kernel) ⟨Nat.le_of_ble_eq_true rfl, Nat.le_of_ble_eq_true rfl⟩, hts _ q608, trivial⟩ (b_preS hW hp29) rfl rfl hl.1 rfl (lv_room (Nat.le_of_ble_eq_true rfl)) dX11_goer_47 ⟨Nat.le_of_ble_eq_true rfl, Nat.le_of_ble_eq_true rfl⟩) hW hp29 (fun z29 _ H locs hW => ?_)
          refine W.cs (cells' := 25) (slots' := 810) rfl rfl ?_
          have hW : bW D g A s H _ ([(z29, .inr (5 + k28, [.int (N.1 0 1), .int r25]))] :: [rW g adR (adX 10) (adN 0) R26, xW g adX (adO 0) (adT 0) iX X, dW g D27, vW g adN N, gW L kd nu aa]) := hW
          have hW := b_perms hW (Bs' := gW L kd nu aa :: [(z29, .inr (5 + k28, [.int (N.1 0 1), .int r25]))] :: [rW g adR (adX 10) (adN 0) R26, xW g adX (adO 0) (adT 0) iX X, dW g D27, vW g adN N]) (b_ord [5, 0, 1, 2, 3, 4] 6 rfl rfl rfl)
          obtain ⟨hz29, hW⟩ := b_push hW
          have hf := q_als hf hz29
          obtain ⟨L30, eL30, hf⟩ := q_ls hf
          rw [eL30] at hW
          obtain ⟨kd31, ekd31, hf⟩ := q_ls hf
          rw [ekd31] at hW
          obtain ⟨nu32, enu32, hf⟩ := q_ls hf
          rw [enu32] at hW
          obtain ⟨aa33, eaa33, hf⟩ := q_ls hf
          rw [eaa33] at hW
          have hW : bW D g A s H _ [gW L30 kd31 nu32 aa33, rW g adR (adX 10) (adN 0) R26, xW g adX (adO 0) (adT 0) iX X, dW g D27, vW g adN N] := hW
          refine lv_iload_n hx hb dX11_goer_50 rfl (lv_at hl 0 rfl) ?_
          obtain ⟨N34, hc34, hf⟩ := q_b1s hf
          have hp34 : List.Perm [gW L30 kd31 nu32 aa33, rW g adR (adX 10) (adN 0) R26, xW g adX (adO 0) (adT 0) iX X, dW g D27, vW g adN N] ([vW g adN N, gW L30 kd31 nu32 aa33] ++ [rW g adR (adX 10) (adN 0) R26, xW g adX (adO 0) (adT 0) iX X, dW g D27]) := b_perm [4, 0] [1, 2, 3] 5 rfl rfl rfl rfl
          refine b_call0 ⟨rfl, rfl⟩ (va_runV (As := [.ref z29, .int r18]) (rest := []) ⟨hx, hb, hml, hown, hts⟩ (m_X1_adds_2 l D g H.size adN N L30 kd31 nu32 aa33 z29 r18 N34 hc34) (cwV 2 hts (lw_V q1080 q665 q666 q77 q667) rfl rfl rfl (by decide +kernel) ⟨Nat.le_of_ble_eq_true rfl, Nat.le_of_ble_eq_true rfl⟩) (b_preV (pp := 4) (q := 0) hW hp34 rfl vW_0 rfl) rfl rfl hl.1 rfl (lv_room (Nat.le_of_ble_eq_true rfl)) dX11_goer_51 ⟨Nat.le_of_ble_eq_true rfl, Nat.le_of_ble_eq_true rfl⟩) hW hp34 (fun _ _ H locs hW => ?_)
          have hW : bW D g A s H locs [vW g adN N34, gW L30 kd31 nu32 aa33, rW g adR (adX 10) (adN 0) R26, xW g adX (adO 0) (adT 0) iX X, dW g D27] := hW
          refine b_toQ hE (fun Q hE => ?_)
          refine W.widen (k := 25) (n := 810) (by decide) (by decide) ?_
          exact b_vret hx hb hr hlk hE (b_perms hW (b_ord [2, 3, 0, 1, 4] 5 rfl rfl rfl)) (R26, N34, L30, kd31, nu32, aa33, D27) rfl hf rfl dX11_goer_54
def f_X11_letter (fu : Nat) (g : Nat → Nat) (R : BC) (X : BC) (N : BC) (Dd : Option DT) (post : BC → BC → (Option DT) → Prop) (postX : Int32 → BC → BC → (Option DT) → Prop) : Prop :=
 f_X11_next fu g R X (fun (R2 : BC) (D3 : Option DT) =>
 q_b1 (f_X1_isInn N (R2.1 0 3)) fun (r4 : Int32) =>
 (if r4 = 0 then
 f_X11_number fu g R2 X D3 0 ((N.1 0 0) - 1) (fun (r10 : Int32) (R11 : BC) (D12 : (Option DT)) =>
 f_X11_number fu g R11 X D12 0 100 (fun (r17 : Int32) (R18 : BC) (D19 : (Option DT)) =>
 q_b1 (f_X1_gets N r10 r17) fun (N20 : BC) =>
 post R18 N20 D19) (fun (by16 : Int32) (R14 : BC) (D15 : (Option DT)) => postX by16 R14 N D15)) (fun (by9 : Int32) (R7 : BC) (D8 : (Option DT)) => postX by9 R7 N D8)
 else
 q_ck (inB (R2.1 0 3) 6) ((if (N.1 6 (ix (R2.1 0 3))) = 99 then
 postX (R2.1 0 2) R2 N D3
 else
 f_X11_number fu g R2 X D3 0 ((N.1 0 0) - 1) (fun (r27 : Int32) (R28 : BC) (D29 : (Option DT)) =>
 f_X11_number fu g R28 X D29 0 100 (fun (r34 : Int32) (R35 : BC) (D36 : (Option DT)) =>
 q_b1 (f_X1_gets N r27 r34) fun (N37 : BC) =>
 post R35 N37 D36) (fun (by33 : Int32) (R31 : BC) (D32 : (Option DT)) => postX by33 R31 N D32)) (fun (by26 : Int32) (R24 : BC) (D25 : (Option DT)) => postX by26 R24 N D25)))))
abbrev rm_X11_letter : Room := { frames := 8, cells := 19, slots := 613, locals := 219 }
set_option maxHeartbeats 4000000 in
set_option maxRecDepth 100000 in
theorem m_X11_letter (l : Launch) (D : va_G) (g : Nat → ClassId) (sz : Nat) (adR : Nat → Nat) (adX : Nat → Nat) (iX : Option Nat) (adN : Nat → Nat) (adT : Nat → Nat) (adO : Nat → Nat) (fu : Nat) (R : BC) (X : BC) (N : BC) (Dd : Option DT) (post : BC → BC → (Option DT) → Prop) (postX : Int32 → BC → BC → (Option DT) → Prop) (hf : f_X11_letter fu g R X N Dd post postX) : bxMet (S := BC × BC × (Option DT)) (SX := Nat × Int32 × BC × BC × (Option DT)) l yX11_letter (ws_ yX11_letter cX11_letter 2 none) rm_X11_letter D g sz [.ref (adR 0)] [rW g adR (adX 10) (adN 0) R, xW g adX (adO 0) (adT 0) iX X, vW g adN N, dW g Dd] (fun u => post u.1 u.2.1 u.2.2) (fun u => none) (fun u => [rW g adR (adX 10) (adN 0) (u.1), xW g adX (adO 0) (adT 0) iX X, vW g adN (u.2.1), dW g u.2.2]) (fun E q u => E = "EverybodyHasTheBook$Fault" ∧ q = u.1 ∧ postX u.2.1 u.2.2.1 u.2.2.2.1 u.2.2.2.2) (fun u => [rW g adR (adX 10) (adN 0) (u.2.2.1), xW g adX (adO 0) (adT 0) iX X, vW g adN (u.2.2.2.1), dW g u.2.2.2.2, [(u.1, .inr (12, xRf u.2.1))]]) := by
  refine b_metX (by decide) (Nat.le_of_ble_eq_true rfl) ?_
  intro p e s m args below meth c A Q ls hx hb hml hr hlk hown hname hts hno hE hl hW
  revert hW; generalize s.heap = H; intro hW
  have hl : lv_has ls 2 [(0, .ref (adR 0))] := hl
  rw [f_X11_letter] at hf
  refine lv_aload_n hx hb dX11_letter_0 rfl (lv_at hl 0 rfl) ?_
  have hp1 : List.Perm ([rW g adR (adX 10) (adN 0) R, xW g adX (adO 0) (adT 0) iX X, vW g adN N, dW g Dd] : List va_W) ([rW g adR (adX 10) (adN 0) R, xW g adX (adO 0) (adT 0) iX X] ++ [vW g adN N, dW g Dd]) := b_perm [0, 1] [2, 3] 4 rfl rfl rfl rfl
  refine b_call (va_runV (As := []) (rest := []) ⟨hx, hb, hml, hown, hts⟩ (m_X11_next l D g H.size adR adX adN adO adT iX fu R X _ hf) (cwV 0 hts (lw_V q769 q771 qs7 q100 q772) rfl rfl rfl (by decide +kernel) ⟨Nat.le_of_ble_eq_true rfl, Nat.le_of_ble_eq_true rfl⟩) (b_preV (pp := 0) (q := 0) hW hp1 rfl rW_0 rfl) rfl rfl hl.1 rfl (lv_room (Nat.le_of_ble_eq_true rfl)) dX11_letter_1 ⟨Nat.le_of_ble_eq_true rfl, Nat.le_of_ble_eq_true rfl⟩) hW hp1 (fun u1 hf H locs hW => ?_)
  obtain ⟨R2, D3⟩ := u1; try dsimp only at hf hW
  refine W.cs (cells' := 6) (slots' := 202) rfl rfl ?_
  have hW : bW D g A s H locs [rW g adR (adX 10) (adN 0) R2, xW g adX (adO 0) (adT 0) iX X, dW g D3, vW g adN N, dW g Dd] := hW
  have hW := b_sub (Bs' := [rW g adR (adX 10) (adN 0) R2, xW g adX (adO 0) (adT 0) iX X, dW g D3, vW g adN N]) (wr := [dW g Dd]) hW (b_ord [0, 1, 2, 3, 4] 5 rfl rfl rfl)
  have hW : bW D g A s H locs [rW g adR (adX 10) (adN 0) R2, xW g adX (adO 0) (adT 0) iX X, dW g D3, vW g adN N] := hW
  refine lv_aload_n hx hb dX11_letter_4 rfl (lv_at hl 0 rfl) ?_
  refine b_get hx hb hts in_X11 hown hW 0 0 11 2 rfl rW_0 rfl (by decide) ⟨rfl, rfl, rfl⟩ (hts _ q744) rW_g2 dX11_letter_5 ?_
  refine lv_aload_n hx hb dX11_letter_8 rfl (lv_at hl 0 rfl) ?_
  refine b_get hx hb hts in_X11 hown hW 0 0 11 6 rfl rW_0 rfl (by decide) ⟨rfl, rfl, rfl⟩ (hts _ q749) rW_g6 dX11_letter_9 ?_
  obtain ⟨r4, hc4, hf⟩ := q_b1s hf
  have hp4 : List.Perm [rW g adR (adX 10) (adN 0) R2, xW g adX (adO 0) (adT 0) iX X, dW g D3, vW g adN N] ([vW g adN N] ++ [rW g adR (adX 10) (adN 0) R2, xW g adX (adO 0) (adT 0) iX X, dW g D3]) := b_perm [3] [0, 1, 2] 4 rfl rfl rfl rfl
  refine b_call0 ⟨rfl, rfl⟩ (va_runV (As := [.int (R2.1 0 3)]) (rest := []) ⟨hx, hb, hml, hown, hts⟩ (m_X1_isInn l D g H.size adN N (R2.1 0 3) r4 hc4) (cwV 1 hts (lw_V q1085 q673 q674 q77 q675) rfl rfl rfl (by decide +kernel) ⟨Nat.le_of_ble_eq_true rfl, Nat.le_of_ble_eq_true rfl⟩) (b_preV (pp := 3) (q := 0) hW hp4 rfl vW_0 rfl) rfl rfl hl.1 rfl (lv_room (Nat.le_of_ble_eq_true rfl)) dX11_letter_12 ⟨Nat.le_of_ble_eq_true rfl, Nat.le_of_ble_eq_true rfl⟩) hW hp4 (fun _ _ H locs hW => ?_)
  have hW : bW D g A s H locs [vW g adN N, rW g adR (adX 10) (adN 0) R2, xW g adX (adO 0) (adT 0) iX X, dW g D3] := hW
  refine lv_if_eq (tgt := 40) hx hb dX11_letter_15 (by decide) (fun c5 => ?_) (fun c5 => ?_)
  · have hf := q_t hf c5
    refine lv_aload_n hx hb dX11_letter_40 rfl (lv_at hl 0 rfl) ?_
    refine lv_iconst (v := 0) hx hb dX11_letter_41 (by decide) ?_
    refine lv_aload_n hx hb dX11_letter_42 rfl (lv_at hl 0 rfl) ?_
    refine b_get hx hb hts in_X11 hown hW 1 0 11 2 rfl rW_0 rfl (by decide) ⟨rfl, rfl, rfl⟩ (hts _ q744) rW_g2 dX11_letter_43 ?_
    refine b_get hx hb hts in_X1 hown hW 0 0 1 12 rfl vW_0 rfl (by decide) ⟨rfl, rfl, rfl⟩ (hts _ q166) vW_g12 dX11_letter_46 ?_
    refine lv_iconst (v := 1) hx hb dX11_letter_49 (by decide) ?_
    refine lv_isub hx hb dX11_letter_50 ?_
    have hp6 : List.Perm ([vW g adN N, rW g adR (adX 10) (adN 0) R2, xW g adX (adO 0) (adT 0) iX X, dW g D3] : List va_W) ([rW g adR (adX 10) (adN 0) R2, xW g adX (adO 0) (adT 0) iX X, dW g D3] ++ [vW g adN N]) := b_perm [1, 2, 3] [0] 4 rfl rfl rfl rfl
    refine b_callX (vx_runV (As := [.int 0, .int ((N.1 0 0) - 1)]) (rest := []) ⟨hx, hb, hml, hown, hts⟩ (m_X11_number l D g H.size adR adX iX adN adT adO fu R2 X D3 0 ((N.1 0 0) - 1) _ _ hf) (cwV 2 hts (lw_V q1065 q1067 qs13 q100 q1068) rfl rfl rfl (by decide +kernel) ⟨Nat.le_of_ble_eq_true rfl, Nat.le_of_ble_eq_true rfl⟩) (b_preV (pp := 1) (q := 0) hW hp6 rfl rW_0 rfl) rfl rfl hl.1 rfl (lv_room (Nat.le_of_ble_eq_true rfl)) dX11_letter_51 ⟨Nat.le_of_ble_eq_true rfl, Nat.le_of_ble_eq_true rfl⟩) hW hp6 (fun E q6 ce6 u6 hok H locs hW hcell hcv hcl => ?_) (fun u6 hf H locs hW => ?_)
    · try dsimp only at hok hW
      obtain ⟨z9, by9, R7, D8⟩ := u6
      obtain ⟨hE9, hq9, hf⟩ := hok; (try dsimp only at hq9 hf hW); subst hE9; subst hq9
      have hW : bW D g A s H locs [rW g adR (adX 10) (adN 0) R7, xW g adX (adO 0) (adT 0) iX X, dW g D8, [(q6, .inr (12, xRf by9))], vW g adN N] := hW
      exact b_outX hE hlk hno (b_perms hW (b_ord [0, 1, 4, 2, 3] 5 rfl rfl rfl)) (q6, by9, R7, N, D8) rfl hcell hcv hcl ⟨rfl, rfl, hf⟩ (Nat.le_of_ble_eq_true rfl) (Nat.le_of_ble_eq_true rfl)
    · try dsimp only at hf hW
      obtain ⟨r10, R11, D12⟩ := u6
      try dsimp only at hf hW ⊢
      refine W.cs (cells' := 12) (slots' := 404) rfl rfl ?_
      have hW : bW D g A s H locs [rW g adR (adX 10) (adN 0) R11, xW g adX (adO 0) (adT 0) iX X, dW g D12, vW g adN N] := hW
      refine lv_istore_n (lv' := [(1, .int r10), (0, .ref (adR 0))]) hx hb dX11_letter_54 rfl hl (by decide) rfl (fun ls hl => ?_)
      refine lv_aload_n hx hb dX11_letter_55 rfl (lv_at hl 1 rfl) ?_
      refine b_get hx hb hts in_X11 hown hW 0 0 11 2 rfl rW_0 rfl (by decide) ⟨rfl, rfl, rfl⟩ (hts _ q744) rW_g2 dX11_letter_56 ?_
      refine lv_iload_n hx hb dX11_letter_59 rfl (lv_at hl 0 rfl) ?_
      refine lv_aload_n hx hb dX11_letter_60 rfl (lv_at hl 1 rfl) ?_
      refine lv_iconst (v := 0) hx hb dX11_letter_61 (by decide) ?_
      refine lv_bipush (v := 100) hx hb dX11_letter_62 (by decide) ?_
      have hp13 : List.Perm ([rW g adR (adX 10) (adN 0) R11, xW g adX (adO 0) (adT 0) iX X, dW g D12, vW g adN N] : List va_W) ([rW g adR (adX 10) (adN 0) R11, xW g adX (adO 0) (adT 0) iX X, dW g D12] ++ [vW g adN N]) := b_perm [0, 1, 2] [3] 4 rfl rfl rfl rfl
      refine b_callX (vx_runV (As := [.int 0, .int 100]) (rest := [.int r10, .ref (adN 0)]) ⟨hx, hb, hml, hown, hts⟩ (m_X11_number l D g H.size adR adX iX adN adT adO fu R11 X D12 0 100 _ _ hf) (cwV 2 hts (lw_V q1065 q1067 qs13 q100 q1068) rfl rfl rfl (by decide +kernel) ⟨Nat.le_of_ble_eq_true rfl, Nat.le_of_ble_eq_true rfl⟩) (b_preV (pp := 0) (q := 0) hW hp13 rfl rW_0 rfl) rfl rfl hl.1 rfl (lv_room (Nat.le_of_ble_eq_true rfl)) dX11_letter_64 ⟨Nat.le_of_ble_eq_true rfl, Nat.le_of_ble_eq_true rfl⟩) hW hp13 (fun E q13 ce13 u13 hok H locs hW hcell hcv hcl => ?_) (fun u13 hf H locs hW => ?_)
      · try dsimp only at hok hW
        obtain ⟨z9, by16, R14, D15⟩ := u13
        obtain ⟨hE9, hq9, hf⟩ := hok; (try dsimp only at hq9 hf hW); subst hE9; subst hq9
        have hW : bW D g A s H locs [rW g adR (adX 10) (adN 0) R14, xW g adX (adO 0) (adT 0) iX X, dW g D15, [(q13, .inr (12, xRf by16))], vW g adN N] := hW
        exact b_outX hE hlk hno (b_perms hW (b_ord [0, 1, 4, 2, 3] 5 rfl rfl rfl)) (q13, by16, R14, N, D15) rfl hcell hcv hcl ⟨rfl, rfl, hf⟩ (Nat.le_of_ble_eq_true rfl) (Nat.le_of_ble_eq_true rfl)
      · try dsimp only at hf hW
        obtain ⟨r17, R18, D19⟩ := u13
        try dsimp only at hf hW ⊢
        refine W.cs (cells' := 18) (slots' := 606) rfl rfl ?_
        have hW : bW D g A s H locs [rW g adR (adX 10) (adN 0) R18, xW g adX (adO 0) (adT 0) iX X, dW g D19, vW g adN N] := hW
        obtain ⟨N20, hc20, hf⟩ := q_b1s hf
        have hp20 : List.Perm [rW g adR (adX 10) (adN 0) R18, xW g adX (adO 0) (adT 0) iX X, dW g D19, vW g adN N] ([vW g adN N] ++ [rW g adR (adX 10) (adN 0) R18, xW g adX (adO 0) (adT 0) iX X, dW g D19]) := b_perm [3] [0, 1, 2] 4 rfl rfl rfl rfl
        refine b_call0 ⟨rfl, rfl⟩ (va_runV (As := [.int r10, .int r17]) (rest := []) ⟨hx, hb, hml, hown, hts⟩ (m_X1_gets l D g H.size adN N r10 r17 N20 hc20) (cwV 2 hts (lw_V q1086 q701 q702 q77 q703) rfl rfl rfl (by decide +kernel) ⟨Nat.le_of_ble_eq_true rfl, Nat.le_of_ble_eq_true rfl⟩) (b_preV (pp := 3) (q := 0) hW hp20 rfl vW_0 rfl) rfl rfl hl.1 rfl (lv_room (Nat.le_of_ble_eq_true rfl)) dX11_letter_67 ⟨Nat.le_of_ble_eq_true rfl, Nat.le_of_ble_eq_true rfl⟩) hW hp20 (fun _ _ H locs hW => ?_)
        have hW : bW D g A s H locs [vW g adN N20, rW g adR (adX 10) (adN 0) R18, xW g adX (adO 0) (adT 0) iX X, dW g D19] := hW
        refine b_toQ hE (fun Q hE => ?_)
        refine W.widen (k := 19) (n := 613) (by decide) (by decide) ?_
        exact b_vret hx hb hr hlk hE (b_perms hW (b_ord [1, 2, 0, 3] 4 rfl rfl rfl)) (R18, N20, D19) rfl hf rfl dX11_letter_70
  · have hf := q_f hf c5
    refine lv_aload_n hx hb dX11_letter_18 rfl (lv_at hl 0 rfl) ?_
    refine b_get hx hb hts in_X11 hown hW 1 0 11 2 rfl rW_0 rfl (by decide) ⟨rfl, rfl, rfl⟩ (hts _ q744) rW_g2 dX11_letter_19 ?_
    refine b_get hx hb hts in_X1 hown hW 0 0 1 5 rfl vW_0 rfl (by decide) ⟨rfl, rfl, rfl⟩ (hts _ q148) vW_g5 dX11_letter_22 ?_
    refine lv_aload_n hx hb dX11_letter_25 rfl (lv_at hl 0 rfl) ?_
    refine b_get hx hb hts in_X11 hown hW 1 0 11 6 rfl rW_0 rfl (by decide) ⟨rfl, rfl, rfl⟩ (hts _ q749) rW_g6 dX11_letter_26 ?_
    obtain ⟨h21, hf⟩ := q_cs hf
    refine b_iald hx hb hW 0 6 rfl vW_6 h21 dX11_letter_29 ?_
    refine lv_bipush (v := 99) hx hb dX11_letter_30 (by decide) ?_
    refine lv_icmp_ne (tgt := 40) hx hb dX11_letter_32 (by decide) (fun c22 => ?_) (fun c22 => ?_)
    · have hf := q_f hf c22
      refine lv_aload_n hx hb dX11_letter_40 rfl (lv_at hl 0 rfl) ?_
      refine lv_iconst (v := 0) hx hb dX11_letter_41 (by decide) ?_
      refine lv_aload_n hx hb dX11_letter_42 rfl (lv_at hl 0 rfl) ?_
      refine b_get hx hb hts in_X11 hown hW 1 0 11 2 rfl rW_0 rfl (by decide) ⟨rfl, rfl, rfl⟩ (hts _ q744) rW_g2 dX11_letter_43 ?_
      refine b_get hx hb hts in_X1 hown hW 0 0 1 12 rfl vW_0 rfl (by decide) ⟨rfl, rfl, rfl⟩ (hts _ q166) vW_g12 dX11_letter_46 ?_
      refine lv_iconst (v := 1) hx hb dX11_letter_49 (by decide) ?_
      refine lv_isub hx hb dX11_letter_50 ?_
      have hp23 : List.Perm ([vW g adN N, rW g adR (adX 10) (adN 0) R2, xW g adX (adO 0) (adT 0) iX X, dW g D3] : List va_W) ([rW g adR (adX 10) (adN 0) R2, xW g adX (adO 0) (adT 0) iX X, dW g D3] ++ [vW g adN N]) := b_perm [1, 2, 3] [0] 4 rfl rfl rfl rfl
      refine b_callX (vx_runV (As := [.int 0, .int ((N.1 0 0) - 1)]) (rest := []) ⟨hx, hb, hml, hown, hts⟩ (m_X11_number l D g H.size adR adX iX adN adT adO fu R2 X D3 0 ((N.1 0 0) - 1) _ _ hf) (cwV 2 hts (lw_V q1065 q1067 qs13 q100 q1068) rfl rfl rfl (by decide +kernel) ⟨Nat.le_of_ble_eq_true rfl, Nat.le_of_ble_eq_true rfl⟩) (b_preV (pp := 1) (q := 0) hW hp23 rfl rW_0 rfl) rfl rfl hl.1 rfl (lv_room (Nat.le_of_ble_eq_true rfl)) dX11_letter_51 ⟨Nat.le_of_ble_eq_true rfl, Nat.le_of_ble_eq_true rfl⟩) hW hp23 (fun E q23 ce23 u23 hok H locs hW hcell hcv hcl => ?_) (fun u23 hf H locs hW => ?_)
      · try dsimp only at hok hW
        obtain ⟨z9, by26, R24, D25⟩ := u23
        obtain ⟨hE9, hq9, hf⟩ := hok; (try dsimp only at hq9 hf hW); subst hE9; subst hq9
        have hW : bW D g A s H locs [rW g adR (adX 10) (adN 0) R24, xW g adX (adO 0) (adT 0) iX X, dW g D25, [(q23, .inr (12, xRf by26))], vW g adN N] := hW
        exact b_outX hE hlk hno (b_perms hW (b_ord [0, 1, 4, 2, 3] 5 rfl rfl rfl)) (q23, by26, R24, N, D25) rfl hcell hcv hcl ⟨rfl, rfl, hf⟩ (Nat.le_of_ble_eq_true rfl) (Nat.le_of_ble_eq_true rfl)
      · try dsimp only at hf hW
        obtain ⟨r27, R28, D29⟩ := u23
        try dsimp only at hf hW ⊢
        refine W.cs (cells' := 12) (slots' := 404) rfl rfl ?_
        have hW : bW D g A s H locs [rW g adR (adX 10) (adN 0) R28, xW g adX (adO 0) (adT 0) iX X, dW g D29, vW g adN N] := hW
        refine lv_istore_n (lv' := [(1, .int r27), (0, .ref (adR 0))]) hx hb dX11_letter_54 rfl hl (by decide) rfl (fun ls hl => ?_)
        refine lv_aload_n hx hb dX11_letter_55 rfl (lv_at hl 1 rfl) ?_
        refine b_get hx hb hts in_X11 hown hW 0 0 11 2 rfl rW_0 rfl (by decide) ⟨rfl, rfl, rfl⟩ (hts _ q744) rW_g2 dX11_letter_56 ?_
        refine lv_iload_n hx hb dX11_letter_59 rfl (lv_at hl 0 rfl) ?_
        refine lv_aload_n hx hb dX11_letter_60 rfl (lv_at hl 1 rfl) ?_
        refine lv_iconst (v := 0) hx hb dX11_letter_61 (by decide) ?_
        refine lv_bipush (v := 100) hx hb dX11_letter_62 (by decide) ?_
        have hp30 : List.Perm ([rW g adR (adX 10) (adN 0) R28, xW g adX (adO 0) (adT 0) iX X, dW g D29, vW g adN N] : List va_W) ([rW g adR (adX 10) (adN 0) R28, xW g adX (adO 0) (adT 0) iX X, dW g D29] ++ [vW g adN N]) := b_perm [0, 1, 2] [3] 4 rfl rfl rfl rfl
        refine b_callX (vx_runV (As := [.int 0, .int 100]) (rest := [.int r27, .ref (adN 0)]) ⟨hx, hb, hml, hown, hts⟩ (m_X11_number l D g H.size adR adX iX adN adT adO fu R28 X D29 0 100 _ _ hf) (cwV 2 hts (lw_V q1065 q1067 qs13 q100 q1068) rfl rfl rfl (by decide +kernel) ⟨Nat.le_of_ble_eq_true rfl, Nat.le_of_ble_eq_true rfl⟩) (b_preV (pp := 0) (q := 0) hW hp30 rfl rW_0 rfl) rfl rfl hl.1 rfl (lv_room (Nat.le_of_ble_eq_true rfl)) dX11_letter_64 ⟨Nat.le_of_ble_eq_true rfl, Nat.le_of_ble_eq_true rfl⟩) hW hp30 (fun E q30 ce30 u30 hok H locs hW hcell hcv hcl => ?_) (fun u30 hf H locs hW => ?_)
        · try dsimp only at hok hW
          obtain ⟨z9, by33, R31, D32⟩ := u30
          obtain ⟨hE9, hq9, hf⟩ := hok; (try dsimp only at hq9 hf hW); subst hE9; subst hq9
          have hW : bW D g A s H locs [rW g adR (adX 10) (adN 0) R31, xW g adX (adO 0) (adT 0) iX X, dW g D32, [(q30, .inr (12, xRf by33))], vW g adN N] := hW
          exact b_outX hE hlk hno (b_perms hW (b_ord [0, 1, 4, 2, 3] 5 rfl rfl rfl)) (q30, by33, R31, N, D32) rfl hcell hcv hcl ⟨rfl, rfl, hf⟩ (Nat.le_of_ble_eq_true rfl) (Nat.le_of_ble_eq_true rfl)
        · try dsimp only at hf hW
          obtain ⟨r34, R35, D36⟩ := u30
          try dsimp only at hf hW ⊢
          refine W.cs (cells' := 18) (slots' := 606) rfl rfl ?_
          have hW : bW D g A s H locs [rW g adR (adX 10) (adN 0) R35, xW g adX (adO 0) (adT 0) iX X, dW g D36, vW g adN N] := hW
          obtain ⟨N37, hc37, hf⟩ := q_b1s hf
          have hp37 : List.Perm [rW g adR (adX 10) (adN 0) R35, xW g adX (adO 0) (adT 0) iX X, dW g D36, vW g adN N] ([vW g adN N] ++ [rW g adR (adX 10) (adN 0) R35, xW g adX (adO 0) (adT 0) iX X, dW g D36]) := b_perm [3] [0, 1, 2] 4 rfl rfl rfl rfl
          refine b_call0 ⟨rfl, rfl⟩ (va_runV (As := [.int r27, .int r34]) (rest := []) ⟨hx, hb, hml, hown, hts⟩ (m_X1_gets l D g H.size adN N r27 r34 N37 hc37) (cwV 2 hts (lw_V q1086 q701 q702 q77 q703) rfl rfl rfl (by decide +kernel) ⟨Nat.le_of_ble_eq_true rfl, Nat.le_of_ble_eq_true rfl⟩) (b_preV (pp := 3) (q := 0) hW hp37 rfl vW_0 rfl) rfl rfl hl.1 rfl (lv_room (Nat.le_of_ble_eq_true rfl)) dX11_letter_67 ⟨Nat.le_of_ble_eq_true rfl, Nat.le_of_ble_eq_true rfl⟩) hW hp37 (fun _ _ H locs hW => ?_)
          have hW : bW D g A s H locs [vW g adN N37, rW g adR (adX 10) (adN 0) R35, xW g adX (adO 0) (adT 0) iX X, dW g D36] := hW
          refine b_toQ hE (fun Q hE => ?_)
          refine W.widen (k := 19) (n := 613) (by decide) (by decide) ?_
          exact b_vret hx hb hr hlk hE (b_perms hW (b_ord [1, 2, 0, 3] 4 rfl rfl rfl)) (R35, N37, D36) rfl hf rfl dX11_letter_70
    · have hf := q_t hf c22
      refine lv_aload_n hx hb dX11_letter_35 rfl (lv_at hl 0 rfl) ?_
      have hp38 : List.Perm ([vW g adN N, rW g adR (adX 10) (adN 0) R2, xW g adX (adO 0) (adT 0) iX X, dW g D3] : List va_W) ([rW g adR (adX 10) (adN 0) R2] ++ [vW g adN N, xW g adX (adO 0) (adT 0) iX X, dW g D3]) := b_perm [1] [0, 2, 3] 4 rfl rfl rfl rfl
      refine b_call (va_runV (As := []) (rest := []) ⟨hx, hb, hml, hown, hts⟩ (m_X11_wrong l D g H.size adR (adX 10) (adN 0) R2) (cwV 0 hts (lw_V q968 q970 qs10 q100 q971) rfl rfl rfl (by decide +kernel) ⟨Nat.le_of_ble_eq_true rfl, Nat.le_of_ble_eq_true rfl⟩) (b_preV (pp := 1) (q := 0) hW hp38 rfl rW_0 rfl) rfl rfl hl.1 rfl (lv_room (Nat.le_of_ble_eq_true rfl)) dX11_letter_36 ⟨Nat.le_of_ble_eq_true rfl, Nat.le_of_ble_eq_true rfl⟩) hW hp38 (fun zF39 _ H locs hW => ?_)
      refine W.cs (cells' := 7) (slots' := 209) rfl rfl ?_
      have hW : bW D g A s H locs [rW g adR (adX 10) (adN 0) R2, [(zF39, .inr (12, xRf (R2.1 0 2)))], vW g adN N, xW g adX (adO 0) (adT 0) iX X, dW g D3] := hW
      refine vx_athrow hx hb dX11_letter_39 ?_
      obtain ⟨ce39, hcell, hcv, hcl⟩ := b_xcell hW (pp := 1) (q := 0) (ci := 12) rfl rfl rfl
      exact b_outX hE hlk hno (b_perms hW (b_ord [0, 3, 2, 4, 1] 5 rfl rfl rfl)) (zF39, (R2.1 0 2), R2, N, D3) rfl hcell hcv hcl ⟨rfl, rfl, hf⟩ (Nat.le_of_ble_eq_true rfl) (Nat.le_of_ble_eq_true rfl)
def f_X11_write_L6 (g : Nat → Nat) (X : BC) (N : BC) (fu : Nat) (post : BC → BC → (Option DT) → Prop) (postX : Int32 → BC → BC → (Option DT) → Prop) (rec4 : (Int32 × BC × Option DT) → Prop) : Int32 × BC × Option DT → Prop
  | (v5, R6, D7) =>
    q_b1 (f_X1_isInn N (R6.1 0 3)) fun (r8 : Int32) =>
     (if r8 = 0 then
     postX (R6.1 0 2) R6 N D7
     else
     q_b1 (f_X0_has v5 (R6.1 0 3)) fun (r13 : Int32) =>
     (if r13 = 0 then
     q_lt (v5 ||| (1 <<< ((R6.1 0 3) &&& 31))) fun (v15 : Int32) =>
     f_X11_next fu g R6 X (fun (R17 : BC) (D18 : Option DT) =>
     (if (R17.1 0 3) = (-1) then
     q_b1 (f_X1_writes fu N v15) fun (N20 : BC) =>
     post R17 N20 D18
     else
     rec4 (v15, R17, D18)))
     else
     postX (R6.1 0 2) R6 N D7))
def f_X11_write (fu : Nat) (g : Nat → Nat) (R : BC) (X : BC) (N : BC) (L : List Nat) (kd : Nat → Nat) (nu : Nat → Int32) (aa : Nat → Int32) (Dd : Option DT) (post : BC → BC → (Option DT) → Prop) (postX : Int32 → BC → BC → (Option DT) → Prop) : Prop :=
 f_X11_next fu g R X (fun (R2 : BC) (D3 : Option DT) =>
 q_lp (f_X11_write_L6 g X N fu post postX) 8 (0, R2, D3))
abbrev rm_X11_write : Room := { frames := 7, cells := 55, slots := 1825, locals := 196 }
set_option maxHeartbeats 4000000 in
set_option maxRecDepth 100000 in
theorem m_X11_write (l : Launch) (D : va_G) (g : Nat → ClassId) (sz : Nat) (adR : Nat → Nat) (adX : Nat → Nat) (iX : Option Nat) (adN : Nat → Nat) (adT : Nat → Nat) (adO : Nat → Nat) (fu : Nat) (R : BC) (X : BC) (N : BC) (L : List Nat) (kd : Nat → Nat) (nu : Nat → Int32) (aa : Nat → Int32) (Dd : Option DT) (post : BC → BC → (Option DT) → Prop) (postX : Int32 → BC → BC → (Option DT) → Prop) (hf : f_X11_write fu g R X N L kd nu aa Dd post postX) : bxMet (S := BC × BC × (Option DT)) (SX := Nat × Int32 × BC × BC × (Option DT)) l yX11_write (ws_ yX11_write cX11_write 2 none) rm_X11_write D g sz [.ref (adR 0)] [rW g adR (adX 10) (adN 0) R, xW g adX (adO 0) (adT 0) iX X, vW g adN N, gW L kd nu aa, dW g Dd] (fun u => post u.1 u.2.1 u.2.2) (fun u => none) (fun u => [rW g adR (adX 10) (adN 0) (u.1), xW g adX (adO 0) (adT 0) iX X, vW g adN (u.2.1), gW L kd nu aa, dW g u.2.2]) (fun E q u => E = "EverybodyHasTheBook$Fault" ∧ q = u.1 ∧ postX u.2.1 u.2.2.1 u.2.2.2.1 u.2.2.2.2) (fun u => [rW g adR (adX 10) (adN 0) (u.2.2.1), xW g adX (adO 0) (adT 0) iX X, vW g adN (u.2.2.2.1), gW L kd nu aa, dW g u.2.2.2.2, [(u.1, .inr (12, xRf u.2.1))]]) := by
  refine b_metX (by decide) (Nat.le_of_ble_eq_true rfl) ?_
  intro p e s m args below meth c A Q ls hx hb hml hr hlk hown hname hts hno hE hl hW
  revert hW; generalize s.heap = H; intro hW
  have hl : lv_has ls 2 [(0, .ref (adR 0))] := hl
  rw [f_X11_write] at hf
  refine lv_aload_n hx hb dX11_write_0 rfl (lv_at hl 0 rfl) ?_
  have hp1 : List.Perm ([rW g adR (adX 10) (adN 0) R, xW g adX (adO 0) (adT 0) iX X, vW g adN N, gW L kd nu aa, dW g Dd] : List va_W) ([rW g adR (adX 10) (adN 0) R, xW g adX (adO 0) (adT 0) iX X] ++ [vW g adN N, gW L kd nu aa, dW g Dd]) := b_perm [0, 1] [2, 3, 4] 5 rfl rfl rfl rfl
  refine b_call (va_runV (As := []) (rest := []) ⟨hx, hb, hml, hown, hts⟩ (m_X11_next l D g H.size adR adX adN adO adT iX fu R X _ hf) (cwV 0 hts (lw_V q769 q771 qs7 q100 q772) rfl rfl rfl (by decide +kernel) ⟨Nat.le_of_ble_eq_true rfl, Nat.le_of_ble_eq_true rfl⟩) (b_preV (pp := 0) (q := 0) hW hp1 rfl rW_0 rfl) rfl rfl hl.1 rfl (lv_room (Nat.le_of_ble_eq_true rfl)) dX11_write_1 ⟨Nat.le_of_ble_eq_true rfl, Nat.le_of_ble_eq_true rfl⟩) hW hp1 (fun u1 hf H locs hW => ?_)
  obtain ⟨R2, D3⟩ := u1; try dsimp only at hf hW
  refine W.cs (cells' := 6) (slots' := 202) rfl rfl ?_
  have hW : bW D g A s H locs [rW g adR (adX 10) (adN 0) R2, xW g adX (adO 0) (adT 0) iX X, dW g D3, vW g adN N, gW L kd nu aa, dW g Dd] := hW
  have hW := b_sub (Bs' := [rW g adR (adX 10) (adN 0) R2, xW g adX (adO 0) (adT 0) iX X, dW g D3, vW g adN N, gW L kd nu aa]) (wr := [dW g Dd]) hW (b_ord [0, 1, 2, 3, 4, 5] 6 rfl rfl rfl)
  have hW : bW D g A s H locs [rW g adR (adX 10) (adN 0) R2, xW g adX (adO 0) (adT 0) iX X, dW g D3, vW g adN N, gW L kd nu aa] := hW
  refine lv_iconst (v := 0) hx hb dX11_write_4 (by decide) ?_
  refine lv_istore_n (lv' := [(1, .int 0), (0, .ref (adR 0))]) hx hb dX11_write_5 rfl hl (by decide) rfl (fun ls hl => ?_)
  obtain ⟨stp4, est4, hf⟩ := q_ln hf
  have L4 : ∀ (n : Nat) (v5 : Int32) (R6 : BC) (D7 : Option DT) (cn4 sn4 : Nat) (hq4 : cn4 + n * 6 ≤ 55 ∧ sn4 + n * 202 ≤ 1825) (H : Heap) (locs : List Loc) (ls : Array Slot), bW D g A s H locs [rW g adR (adX 10) (adN 0) R6, xW g adX (adO 0) (adT 0) iX X, dW g D7, vW g adN N, gW L kd nu aa] → lv_has ls 2 [(1, .int v5), (0, .ref (adR 0))] → q_lp stp4 n (v5, R6, D7) → W p l e rm_X11_write s m args below meth c H locs cn4 sn4 Q (F0 m 6 ls []) := by
    intro n4
    induction n4 with
    | zero => intro v5 R6 D7 cn4 sn4 hq4 H locs ls hW hl hf; exact (q_lz hf).elim
    | succ n4 ih4 =>
      intro v5 R6 D7 cn4 sn4 hq4 H locs ls hW hl hf
      have hf := q_lu est4 hf
      rw [f_X11_write_L6] at hf
      refine lv_aload_n hx hb dX11_write_6 rfl (lv_at hl 1 rfl) ?_
      refine b_get hx hb hts in_X11 hown hW 0 0 11 2 rfl rW_0 rfl (by decide) ⟨rfl, rfl, rfl⟩ (hts _ q744) rW_g2 dX11_write_7 ?_
      refine lv_aload_n hx hb dX11_write_10 rfl (lv_at hl 1 rfl) ?_
      refine b_get hx hb hts in_X11 hown hW 0 0 11 6 rfl rW_0 rfl (by decide) ⟨rfl, rfl, rfl⟩ (hts _ q749) rW_g6 dX11_write_11 ?_
      obtain ⟨r8, hc8, hf⟩ := q_b1s hf
      have hp8 : List.Perm [rW g adR (adX 10) (adN 0) R6, xW g adX (adO 0) (adT 0) iX X, dW g D7, vW g adN N, gW L kd nu aa] ([vW g adN N] ++ [rW g adR (adX 10) (adN 0) R6, xW g adX (adO 0) (adT 0) iX X, dW g D7, gW L kd nu aa]) := b_perm [3] [0, 1, 2, 4] 5 rfl rfl rfl rfl
      refine b_call0 ⟨rfl, rfl⟩ (va_runV (As := [.int (R6.1 0 3)]) (rest := []) ⟨hx, hb, hml, hown, hts⟩ (m_X1_isInn l D g H.size adN N (R6.1 0 3) r8 hc8) (cwV 1 hts (lw_V q1085 q673 q674 q77 q675) rfl rfl rfl (by decide +kernel) ⟨Nat.le_of_ble_eq_true rfl, Nat.le_of_ble_eq_true rfl⟩) (b_preV (pp := 3) (q := 0) hW hp8 rfl vW_0 rfl) rfl rfl hl.1 rfl (lv_room (Nat.le_of_ble_eq_true rfl)) dX11_write_14 ⟨(show cn4 + 0 ≤ 55 from by (have := hq4; omega)), (show sn4 + 0 ≤ 1825 from by (have := hq4; omega))⟩) hW hp8 (fun _ _ H locs hW => ?_)
      have hW : bW D g A s H locs [vW g adN N, rW g adR (adX 10) (adN 0) R6, xW g adX (adO 0) (adT 0) iX X, dW g D7, gW L kd nu aa] := hW
      refine lv_if_eq (tgt := 31) hx hb dX11_write_17 (by decide) (fun c9 => ?_) (fun c9 => ?_)
      · have hf := q_t hf c9
        refine lv_aload_n hx hb dX11_write_31 rfl (lv_at hl 1 rfl) ?_
        have hp10 : List.Perm ([vW g adN N, rW g adR (adX 10) (adN 0) R6, xW g adX (adO 0) (adT 0) iX X, dW g D7, gW L kd nu aa] : List va_W) ([rW g adR (adX 10) (adN 0) R6] ++ [vW g adN N, xW g adX (adO 0) (adT 0) iX X, dW g D7, gW L kd nu aa]) := b_perm [1] [0, 2, 3, 4] 5 rfl rfl rfl rfl
        refine b_call (va_runV (As := []) (rest := []) ⟨hx, hb, hml, hown, hts⟩ (m_X11_wrong l D g H.size adR (adX 10) (adN 0) R6) (cwV 0 hts (lw_V q968 q970 qs10 q100 q971) rfl rfl rfl (by decide +kernel) ⟨Nat.le_of_ble_eq_true rfl, Nat.le_of_ble_eq_true rfl⟩) (b_preV (pp := 1) (q := 0) hW hp10 rfl rW_0 rfl) rfl rfl hl.1 rfl (lv_room (Nat.le_of_ble_eq_true rfl)) dX11_write_32 ⟨(show cn4 + 1 ≤ 55 from by (have := hq4; omega)), (show sn4 + 7 ≤ 1825 from by (have := hq4; omega))⟩) hW hp10 (fun zF11 _ H locs hW => ?_)
        refine W.cs (cells' := (cn4 + 1)) (slots' := (sn4 + 7)) rfl rfl ?_
        have hW : bW D g A s H locs [rW g adR (adX 10) (adN 0) R6, [(zF11, .inr (12, xRf (R6.1 0 2)))], vW g adN N, xW g adX (adO 0) (adT 0) iX X, dW g D7, gW L kd nu aa] := hW
        refine vx_athrow hx hb dX11_write_35 ?_
        obtain ⟨ce11, hcell, hcv, hcl⟩ := b_xcell hW (pp := 1) (q := 0) (ci := 12) rfl rfl rfl
        exact b_outX hE hlk hno (b_perms hW (b_ord [0, 3, 2, 5, 4, 1] 6 rfl rfl rfl)) (zF11, (R6.1 0 2), R6, N, D7) rfl hcell hcv hcl ⟨rfl, rfl, hf⟩ (show (cn4 + 1) ≤ 55 from by (have := hq4; omega)) (show (sn4 + 7) ≤ 1825 from by (have := hq4; omega))
      · have hf := q_f hf c9
        refine lv_iload_n hx hb dX11_write_20 rfl (lv_at hl 0 rfl) ?_
        refine lv_aload_n hx hb dX11_write_21 rfl (lv_at hl 1 rfl) ?_
        refine b_get hx hb hts in_X11 hown hW 1 0 11 6 rfl rW_0 rfl (by decide) ⟨rfl, rfl, rfl⟩ (hts _ q749) rW_g6 dX11_write_22 ?_
        obtain ⟨r13, hc13, hf⟩ := q_b1s hf
        have hp13 : List.Perm [vW g adN N, rW g adR (adX 10) (adN 0) R6, xW g adX (adO 0) (adT 0) iX X, dW g D7, gW L kd nu aa] ([] ++ [vW g adN N, rW g adR (adX 10) (adN 0) R6, xW g adX (adO 0) (adT 0) iX X, dW g D7, gW L kd nu aa]) := b_perm [] [0, 1, 2, 3, 4] 5 rfl rfl rfl rfl
        refine b_call0 ⟨rfl, rfl⟩ (va_runSN (As := [.int v5, .int (R6.1 0 3)]) (rest := []) ⟨hx, hb, hml, hown, hts⟩ (m_X0_has l D g H.size v5 (R6.1 0 3) r13 hc13) ⟨va_cnB 2 hts (lw_meth q590) rfl rfl rfl (hW.2.2.2.2.2.1 _ (List.mem_of_getElem? (i := 6) rfl)) (hts _ q76) (by decide +kernel) ⟨Nat.le_of_ble_eq_true rfl, Nat.le_of_ble_eq_true rfl⟩, hts _ q589, trivial⟩ (b_preS hW hp13) rfl rfl hl.1 rfl (lv_room (Nat.le_of_ble_eq_true rfl)) dX11_write_25 ⟨(show cn4 + 0 ≤ 55 from by (have := hq4; omega)), (show sn4 + 0 ≤ 1825 from by (have := hq4; omega))⟩) hW hp13 (fun _ _ H locs hW => ?_)
        have hW : bW D g A s H locs [vW g adN N, rW g adR (adX 10) (adN 0) R6, xW g adX (adO 0) (adT 0) iX X, dW g D7, gW L kd nu aa] := hW
        refine lv_if_eq (tgt := 36) hx hb dX11_write_28 (by decide) (fun c14 => ?_) (fun c14 => ?_)
        · have hf := q_t hf c14
          refine lv_iload_n hx hb dX11_write_36 rfl (lv_at hl 0 rfl) ?_
          refine lv_iconst (v := 1) hx hb dX11_write_37 (by decide) ?_
          refine lv_aload_n hx hb dX11_write_38 rfl (lv_at hl 1 rfl) ?_
          refine b_get hx hb hts in_X11 hown hW 1 0 11 6 rfl rW_0 rfl (by decide) ⟨rfl, rfl, rfl⟩ (hts _ q749) rW_g6 dX11_write_39 ?_
          refine lv_ishl hx hb dX11_write_42 ?_
          refine lv_ior hx hb dX11_write_43 ?_
          obtain ⟨v15, ev15, hf⟩ := q_ls hf
          refine b_topi ev15 ?_
          refine lv_istore_n (lv' := [(1, .int v15), (0, .ref (adR 0))]) hx hb dX11_write_44 rfl hl (by decide) rfl (fun ls hl => ?_)
          refine lv_aload_n hx hb dX11_write_45 rfl (lv_at hl 1 rfl) ?_
          have hp16 : List.Perm ([vW g adN N, rW g adR (adX 10) (adN 0) R6, xW g adX (adO 0) (adT 0) iX X, dW g D7, gW L kd nu aa] : List va_W) ([rW g adR (adX 10) (adN 0) R6, xW g adX (adO 0) (adT 0) iX X] ++ [vW g adN N, dW g D7, gW L kd nu aa]) := b_perm [1, 2] [0, 3, 4] 5 rfl rfl rfl rfl
          refine b_call (va_runV (As := []) (rest := []) ⟨hx, hb, hml, hown, hts⟩ (m_X11_next l D g H.size adR adX adN adO adT iX fu R6 X _ hf) (cwV 0 hts (lw_V q769 q771 qs7 q100 q772) rfl rfl rfl (by decide +kernel) ⟨Nat.le_of_ble_eq_true rfl, Nat.le_of_ble_eq_true rfl⟩) (b_preV (pp := 1) (q := 0) hW hp16 rfl rW_0 rfl) rfl rfl hl.1 rfl (lv_room (Nat.le_of_ble_eq_true rfl)) dX11_write_46 ⟨(show cn4 + 6 ≤ 55 from by (have := hq4; omega)), (show sn4 + 202 ≤ 1825 from by (have := hq4; omega))⟩) hW hp16 (fun u16 hf H locs hW => ?_)
          obtain ⟨R17, D18⟩ := u16; try dsimp only at hf hW
          refine W.cs (cells' := (cn4 + 6)) (slots' := (sn4 + 202)) rfl rfl ?_
          have hW : bW D g A s H locs [rW g adR (adX 10) (adN 0) R17, xW g adX (adO 0) (adT 0) iX X, dW g D18, vW g adN N, dW g D7, gW L kd nu aa] := hW
          have hW := b_sub (Bs' := [rW g adR (adX 10) (adN 0) R17, xW g adX (adO 0) (adT 0) iX X, dW g D18, vW g adN N, gW L kd nu aa]) (wr := [dW g D7]) hW (b_ord [0, 1, 2, 3, 5, 4] 6 rfl rfl rfl)
          have hW : bW D g A s H locs [rW g adR (adX 10) (adN 0) R17, xW g adX (adO 0) (adT 0) iX X, dW g D18, vW g adN N, gW L kd nu aa] := hW
          refine lv_aload_n hx hb dX11_write_49 rfl (lv_at hl 1 rfl) ?_
          refine b_get hx hb hts in_X11 hown hW 0 0 11 6 rfl rW_0 rfl (by decide) ⟨rfl, rfl, rfl⟩ (hts _ q749) rW_g6 dX11_write_50 ?_
          refine lv_iconst (v := (-1)) hx hb dX11_write_53 (by decide) ?_
          refine lv_icmp_ne (tgt := 6) hx hb dX11_write_54 (by decide) (fun c19 => ?_) (fun c19 => ?_)
          · have hf := q_f hf c19
            exact ih4 _ _ D18 ((cn4 + 6)) ((sn4 + 202)) (by have := hq4; constructor <;> omega) _ _ _ hW (lv_sub hl [0, 1] rfl) hf
          · have hf := q_t hf c19
            refine lv_aload_n hx hb dX11_write_57 rfl (lv_at hl 1 rfl) ?_
            refine b_get hx hb hts in_X11 hown hW 0 0 11 2 rfl rW_0 rfl (by decide) ⟨rfl, rfl, rfl⟩ (hts _ q744) rW_g2 dX11_write_58 ?_
            refine lv_iload_n hx hb dX11_write_61 rfl (lv_at hl 0 rfl) ?_
            obtain ⟨N20, hc20, hf⟩ := q_b1s hf
            have hp20 : List.Perm [rW g adR (adX 10) (adN 0) R17, xW g adX (adO 0) (adT 0) iX X, dW g D18, vW g adN N, gW L kd nu aa] ([vW g adN N] ++ [rW g adR (adX 10) (adN 0) R17, xW g adX (adO 0) (adT 0) iX X, dW g D18, gW L kd nu aa]) := b_perm [3] [0, 1, 2, 4] 5 rfl rfl rfl rfl
            refine b_call0 ⟨rfl, rfl⟩ (va_runV (As := [.int v15]) (rest := []) ⟨hx, hb, hml, hown, hts⟩ (m_X1_writes l D g H.size adN fu N v15 N20 hc20) (cwV 1 hts (lw_V q1092 q686 q687 q77 q688) rfl rfl rfl (by decide +kernel) ⟨Nat.le_of_ble_eq_true rfl, Nat.le_of_ble_eq_true rfl⟩) (b_preV (pp := 3) (q := 0) hW hp20 rfl vW_0 rfl) rfl rfl hl.1 rfl (lv_room (Nat.le_of_ble_eq_true rfl)) dX11_write_62 ⟨(show (cn4 + 6) + 0 ≤ 55 from by (have := hq4; omega)), (show (sn4 + 202) + 0 ≤ 1825 from by (have := hq4; omega))⟩) hW hp20 (fun _ _ H locs hW => ?_)
            have hW : bW D g A s H locs [vW g adN N20, rW g adR (adX 10) (adN 0) R17, xW g adX (adO 0) (adT 0) iX X, dW g D18, gW L kd nu aa] := hW
            refine b_toQ hE (fun Q hE => ?_)
            refine W.widen (k := 55) (n := 1825) (by (have := hq4; omega)) (by (have := hq4; omega)) ?_
            exact b_vret hx hb hr hlk hE (b_perms hW (b_ord [1, 2, 0, 4, 3] 5 rfl rfl rfl)) (R17, N20, D18) rfl hf rfl dX11_write_65
        · have hf := q_f hf c14
          refine lv_aload_n hx hb dX11_write_31 rfl (lv_at hl 1 rfl) ?_
          have hp21 : List.Perm ([vW g adN N, rW g adR (adX 10) (adN 0) R6, xW g adX (adO 0) (adT 0) iX X, dW g D7, gW L kd nu aa] : List va_W) ([rW g adR (adX 10) (adN 0) R6] ++ [vW g adN N, xW g adX (adO 0) (adT 0) iX X, dW g D7, gW L kd nu aa]) := b_perm [1] [0, 2, 3, 4] 5 rfl rfl rfl rfl
          refine b_call (va_runV (As := []) (rest := []) ⟨hx, hb, hml, hown, hts⟩ (m_X11_wrong l D g H.size adR (adX 10) (adN 0) R6) (cwV 0 hts (lw_V q968 q970 qs10 q100 q971) rfl rfl rfl (by decide +kernel) ⟨Nat.le_of_ble_eq_true rfl, Nat.le_of_ble_eq_true rfl⟩) (b_preV (pp := 1) (q := 0) hW hp21 rfl rW_0 rfl) rfl rfl hl.1 rfl (lv_room (Nat.le_of_ble_eq_true rfl)) dX11_write_32 ⟨(show cn4 + 1 ≤ 55 from by (have := hq4; omega)), (show sn4 + 7 ≤ 1825 from by (have := hq4; omega))⟩) hW hp21 (fun zF22 _ H locs hW => ?_)
          refine W.cs (cells' := (cn4 + 1)) (slots' := (sn4 + 7)) rfl rfl ?_
          have hW : bW D g A s H locs [rW g adR (adX 10) (adN 0) R6, [(zF22, .inr (12, xRf (R6.1 0 2)))], vW g adN N, xW g adX (adO 0) (adT 0) iX X, dW g D7, gW L kd nu aa] := hW
          refine vx_athrow hx hb dX11_write_35 ?_
          obtain ⟨ce22, hcell, hcv, hcl⟩ := b_xcell hW (pp := 1) (q := 0) (ci := 12) rfl rfl rfl
          exact b_outX hE hlk hno (b_perms hW (b_ord [0, 3, 2, 5, 4, 1] 6 rfl rfl rfl)) (zF22, (R6.1 0 2), R6, N, D7) rfl hcell hcv hcl ⟨rfl, rfl, hf⟩ (show (cn4 + 1) ≤ 55 from by (have := hq4; omega)) (show (sn4 + 7) ≤ 1825 from by (have := hq4; omega))
  exact L4 _ _ _ D3 (6) (202) (⟨by decide, by decide⟩) _ _ _ hW (lv_sub hl [0, 1] rfl) hf
def f_X11_item (fu : Nat) (g : Nat → Nat) (R : BC) (X : BC) (N : BC) (L : List Nat) (kd : Nat → Nat) (nu : Nat → Int32) (aa : Nat → Int32) (Dd : Option DT) (post : BC → BC → List Nat → (Nat → Nat) → (Nat → Int32) → (Nat → Int32) → (Option DT) → Prop) (postX : Int32 → BC → BC → List Nat → (Nat → Nat) → (Nat → Int32) → (Nat → Int32) → (Option DT) → Prop) : Prop :=
 q_op (R.2.1 0 0) (postX (R.1 0 2) R N L kd nu aa Dd) fun (z1 : Nat) => q_od Dd (q_ck (decide (z1 = g (100 + 6))) (q_op (R.2.1 0 0) (False) fun (z7 : Nat) => q_ck (decide (z7 = g (100 + 6))) (q_b1 (f_J4_hashCode_k 6) fun (r9 : Int32) =>
 (if r9 = (-1106172890) then
 q_b1 (f_J4_equals_k fu 6 3) fun (r12 : Int32) =>
 (if r12 = 0 then
 postX (R.1 0 2) R N L kd nu aa none
 else
 f_X11_letter fu g R X N none (fun (R23 : BC) (N24 : BC) (D25 : (Option DT)) =>
 post R23 N24 L kd nu aa D25) (fun (by22 : Int32) (R19 : BC) (N20 : BC) (D21 : (Option DT)) => postX by22 R19 N20 L kd nu aa D21))
 else
 (if r9 = 96511 then
 q_b1 (f_J4_equals_k fu 6 5) fun (r27 : Int32) =>
 (if r27 = 0 then
 postX (R.1 0 2) R N L kd nu aa none
 else
 f_X11_next fu g R X (fun (R34 : BC) (D35 : Option DT) =>
 f_X11_number fu g R34 X D35 0 99 (fun (r40 : Int32) (R41 : BC) (D42 : (Option DT)) =>
 q_lt (bI N 0 (upd (N.1 0) 2 r40)) fun (N43 : BC) =>
 post R41 N43 L kd nu aa D42) (fun (by39 : Int32) (R37 : BC) (D38 : (Option DT)) => postX by39 R37 N L kd nu aa D38)))
 else
 (if r9 = 104425 then
 q_b1 (f_J4_equals_k fu 6 1) fun (r45 : Int32) =>
 (if r45 = 0 then
 postX (R.1 0 2) R N L kd nu aa none
 else
 f_X11_inn fu g R X N none (fun (R56 : BC) (N57 : BC) (D58 : (Option DT)) =>
 post R56 N57 L kd nu aa D58) (fun (by55 : Int32) (R52 : BC) (N53 : BC) (D54 : (Option DT)) => postX by55 R52 N53 L kd nu aa D54))
 else
 (if r9 = 3178389 then
 q_b1 (f_J4_equals_k fu 6 2) fun (r60 : Int32) =>
 (if r60 = 0 then
 postX (R.1 0 2) R N L kd nu aa none
 else
 f_X11_goer fu g R X N L kd nu aa none (fun (R75 : BC) (N76 : BC) (L77 : List Nat) (kd78 : (Nat → Nat)) (nu79 : (Nat → Int32)) (aa80 : (Nat → Int32)) (D81 : (Option DT)) =>
 post R75 N76 L77 kd78 nu79 aa80 D81) (fun (by74 : Int32) (R67 : BC) (N68 : BC) (L69 : List Nat) (kd70 : (Nat → Nat)) (nu71 : (Nat → Int32)) (aa72 : (Nat → Int32)) (D73 : (Option DT)) => postX by74 R67 N68 L69 kd70 nu71 aa72 D73))
 else
 (if r9 = 113399775 then
 q_b1 (f_J4_equals_k fu 6 4) fun (r83 : Int32) =>
 (if r83 = 0 then
 postX (R.1 0 2) R N L kd nu aa none
 else
 f_X11_write fu g R X N L kd nu aa none (fun (R94 : BC) (N95 : BC) (D96 : (Option DT)) =>
 post R94 N95 L kd nu aa D96) (fun (by93 : Int32) (R90 : BC) (N91 : BC) (D92 : (Option DT)) => postX by93 R90 N91 L kd nu aa D92))
 else
 postX (R.1 0 2) R N L kd nu aa none)))))))) fun (qD5 : Nat) (bD5 : Nat) (nD5 : Nat) (fD5 : Nat → Int32) (hD5 : Int32) (hzD5 : Int32) => q_ck (decide (z1 = qD5)) (q_op (R.2.1 0 0) (False) fun (z100 : Nat) => q_ck (decide (z100 = qD5)) (q_b3 (f_J4_hashCode_b fu nD5 fD5 hD5 hzD5) fun (r102 : Int32) (h103 : Int32) (hz104 : Int32) =>
 (if r102 = (-1106172890) then
 q_b1 (f_J4_equals_b fu nD5 fD5 h103 hz104 3) fun (r107 : Int32) =>
 (if r107 = 0 then
 q_lt (some (qD5, bD5, nD5, fD5, h103, hz104)) fun (D113 : Option DT) =>
 postX (R.1 0 2) R N L kd nu aa D113
 else
 q_lt (some (qD5, bD5, nD5, fD5, h103, hz104)) fun (D114 : Option DT) =>
 f_X11_letter fu g R X N D114 (fun (R120 : BC) (N121 : BC) (D122 : (Option DT)) =>
 post R120 N121 L kd nu aa D122) (fun (by119 : Int32) (R116 : BC) (N117 : BC) (D118 : (Option DT)) => postX by119 R116 N117 L kd nu aa D118))
 else
 (if r102 = 96511 then
 q_b1 (f_J4_equals_b fu nD5 fD5 h103 hz104 5) fun (r124 : Int32) =>
 (if r124 = 0 then
 q_lt (some (qD5, bD5, nD5, fD5, h103, hz104)) fun (D130 : Option DT) =>
 postX (R.1 0 2) R N L kd nu aa D130
 else
 f_X11_next fu g R X (fun (R132 : BC) (D133 : Option DT) =>
 f_X11_number fu g R132 X D133 0 99 (fun (r138 : Int32) (R139 : BC) (D140 : (Option DT)) =>
 q_lt (bI N 0 (upd (N.1 0) 2 r138)) fun (N141 : BC) =>
 post R139 N141 L kd nu aa D140) (fun (by137 : Int32) (R135 : BC) (D136 : (Option DT)) => postX by137 R135 N L kd nu aa D136)))
 else
 (if r102 = 104425 then
 q_b1 (f_J4_equals_b fu nD5 fD5 h103 hz104 1) fun (r143 : Int32) =>
 (if r143 = 0 then
 q_lt (some (qD5, bD5, nD5, fD5, h103, hz104)) fun (D149 : Option DT) =>
 postX (R.1 0 2) R N L kd nu aa D149
 else
 q_lt (some (qD5, bD5, nD5, fD5, h103, hz104)) fun (D150 : Option DT) =>
 f_X11_inn fu g R X N D150 (fun (R156 : BC) (N157 : BC) (D158 : (Option DT)) =>
 post R156 N157 L kd nu aa D158) (fun (by155 : Int32) (R152 : BC) (N153 : BC) (D154 : (Option DT)) => postX by155 R152 N153 L kd nu aa D154))
 else
 (if r102 = 3178389 then
 q_b1 (f_J4_equals_b fu nD5 fD5 h103 hz104 2) fun (r160 : Int32) =>
 (if r160 = 0 then
 q_lt (some (qD5, bD5, nD5, fD5, h103, hz104)) fun (D166 : Option DT) =>
 postX (R.1 0 2) R N L kd nu aa D166
 else
 q_lt (some (qD5, bD5, nD5, fD5, h103, hz104)) fun (D167 : Option DT) =>
 f_X11_goer fu g R X N L kd nu aa D167 (fun (R177 : BC) (N178 : BC) (L179 : List Nat) (kd180 : (Nat → Nat)) (nu181 : (Nat → Int32)) (aa182 : (Nat → Int32)) (D183 : (Option DT)) =>
 post R177 N178 L179 kd180 nu181 aa182 D183) (fun (by176 : Int32) (R169 : BC) (N170 : BC) (L171 : List Nat) (kd172 : (Nat → Nat)) (nu173 : (Nat → Int32)) (aa174 : (Nat → Int32)) (D175 : (Option DT)) => postX by176 R169 N170 L171 kd172 nu173 aa174 D175))
 else
 (if r102 = 113399775 then
 q_b1 (f_J4_equals_b fu nD5 fD5 h103 hz104 4) fun (r185 : Int32) =>
 (if r185 = 0 then
 q_lt (some (qD5, bD5, nD5, fD5, h103, hz104)) fun (D191 : Option DT) =>
 postX (R.1 0 2) R N L kd nu aa D191
 else
 q_lt (some (qD5, bD5, nD5, fD5, h103, hz104)) fun (D192 : Option DT) =>
 f_X11_write fu g R X N L kd nu aa D192 (fun (R198 : BC) (N199 : BC) (D200 : (Option DT)) =>
 post R198 N199 L kd nu aa D200) (fun (by197 : Int32) (R194 : BC) (N195 : BC) (D196 : (Option DT)) => postX by197 R194 N195 L kd nu aa D196))
 else
 q_lt (some (qD5, bD5, nD5, fD5, h103, hz104)) fun (D204 : Option DT) =>
 postX (R.1 0 2) R N L kd nu aa D204)))))))
abbrev rm_X11_item : Room := { frames := 9, cells := 55, slots := 1825, locals := 241 }
set_option maxHeartbeats 4000000 in
set_option maxRecDepth 100000 in
theorem m_X11_item (l : Launch) (D : va_G) (g : Nat → ClassId) (sz : Nat) (adR : Nat → Nat) (adX : Nat → Nat) (iX : Option Nat) (adN : Nat → Nat) (adT : Nat → Nat) (adO : Nat → Nat) (fu : Nat) (R : BC) (X : BC) (N : BC) (L : List Nat) (kd : Nat → Nat) (nu : Nat → Int32) (aa : Nat → Int32) (Dd : Option DT) (post : BC → BC → List Nat → (Nat → Nat) → (Nat → Int32) → (Nat → Int32) → (Option DT) → Prop) (postX : Int32 → BC → BC → List Nat → (Nat → Nat) → (Nat → Int32) → (Nat → Int32) → (Option DT) → Prop) (hf : f_X11_item fu g R X N L kd nu aa Dd post postX) : bxMet (S := BC × BC × List Nat × (Nat → Nat) × (Nat → Int32) × (Nat → Int32) × (Option DT)) (SX := Nat × Int32 × BC × BC × List Nat × (Nat → Nat) × (Nat → Int32) × (Nat → Int32) × (Option DT)) l yX11_item (ws_ yX11_item cX11_item 3 none) rm_X11_item D g sz [.ref (adR 0)] [rW g adR (adX 10) (adN 0) R, xW g adX (adO 0) (adT 0) iX X, vW g adN N, gW L kd nu aa, dW g Dd] (fun u => post u.1 u.2.1 u.2.2.1 u.2.2.2.1 u.2.2.2.2.1 u.2.2.2.2.2.1 u.2.2.2.2.2.2) (fun u => none) (fun u => [rW g adR (adX 10) (adN 0) (u.1), xW g adX (adO 0) (adT 0) iX X, vW g adN (u.2.1), gW u.2.2.1 u.2.2.2.1 u.2.2.2.2.1 u.2.2.2.2.2.1, dW g u.2.2.2.2.2.2]) (fun E q u => E = "EverybodyHasTheBook$Fault" ∧ q = u.1 ∧ postX u.2.1 u.2.2.1 u.2.2.2.1 u.2.2.2.2.1 u.2.2.2.2.2.1 u.2.2.2.2.2.2.1 u.2.2.2.2.2.2.2.1 u.2.2.2.2.2.2.2.2) (fun u => [rW g adR (adX 10) (adN 0) (u.2.2.1), xW g adX (adO 0) (adT 0) iX X, vW g adN (u.2.2.2.1), gW u.2.2.2.2.1 u.2.2.2.2.2.1 u.2.2.2.2.2.2.1 u.2.2.2.2.2.2.2.1, dW g u.2.2.2.2.2.2.2.2, [(u.1, .inr (12, xRf u.2.1))]]) := by
  refine b_metX (by decide) (Nat.le_of_ble_eq_true rfl) ?_
  intro p e s m args below meth c A Q ls hx hb hml hr hlk hown hname hts hno hE hl hW
  revert hW; generalize s.heap = H; intro hW
  have hl : lv_has ls 3 [(0, .ref (adR 0))] := hl
  rw [f_X11_item] at hf
  refine lv_aload_n hx hb dX11_item_0 rfl (lv_at hl 0 rfl) ?_
  refine b_get hx hb hts in_X11 hown hW 0 0 11 5 rfl rW_0 rfl (by decide) ⟨rfl, rfl, rfl⟩ (hts _ q748) rW_g5 dX11_item_1 ?_
  refine b_split (fun hrf => ?_) (fun z1 hrf => ?_)
  · have hf := q_opn hf hrf
    refine lv_ifnonnullN hx hb dX11_item_4 ?_
    refine lv_aload_n hx hb dX11_item_7 rfl (lv_at hl 0 rfl) ?_
    have hp2 : List.Perm ([rW g adR (adX 10) (adN 0) R, xW g adX (adO 0) (adT 0) iX X, vW g adN N, gW L kd nu aa, dW g Dd] : List va_W) ([rW g adR (adX 10) (adN 0) R] ++ [xW g adX (adO 0) (adT 0) iX X, vW g adN N, gW L kd nu aa, dW g Dd]) := b_perm [0] [1, 2, 3, 4] 5 rfl rfl rfl rfl
    refine b_call (va_runV (As := []) (rest := []) ⟨hx, hb, hml, hown, hts⟩ (m_X11_wrong l D g H.size adR (adX 10) (adN 0) R) (cwV 0 hts (lw_V q968 q970 qs10 q100 q971) rfl rfl rfl (by decide +kernel) ⟨Nat.le_of_ble_eq_true rfl, Nat.le_of_ble_eq_true rfl⟩) (b_preV (pp := 0) (q := 0) hW hp2 rfl rW_0 rfl) rfl rfl hl.1 rfl (lv_room (Nat.le_of_ble_eq_true rfl)) dX11_item_8 ⟨Nat.le_of_ble_eq_true rfl, Nat.le_of_ble_eq_true rfl⟩) hW hp2 (fun zF3 _ H locs hW => ?_)
    refine W.cs (cells' := 1) (slots' := 7) rfl rfl ?_
    have hW : bW D g A s H locs [rW g adR (adX 10) (adN 0) R, [(zF3, .inr (12, xRf (R.1 0 2)))], xW g adX (adO 0) (adT 0) iX X, vW g adN N, gW L kd nu aa, dW g Dd] := hW
    refine vx_athrow hx hb dX11_item_11 ?_
    obtain ⟨ce3, hcell, hcv, hcl⟩ := b_xcell hW (pp := 1) (q := 0) (ci := 12) rfl rfl rfl
    exact b_outX hE hlk hno (b_perms hW (b_ord [0, 2, 3, 4, 5, 1] 6 rfl rfl rfl)) (zF3, (R.1 0 2), R, N, L, kd, nu, aa, Dd) rfl hcell hcv hcl ⟨rfl, rfl, hf⟩ (Nat.le_of_ble_eq_true rfl) (Nat.le_of_ble_eq_true rfl)
  · have hf := q_ops hf hrf
    rcases Dd with _ | ⟨qD5, bD5, nD5, fD5, hD5, hzD5⟩
    · have hf := q_odn hf
      obtain ⟨hz6, hfN⟩ := q_cs hf; clear hf; have hz6 := of_decide_eq_true hz6; subst hz6; have hf := hfN; clear hfN
      refine lv_ifnonnull (tgt := 12) hx hb dX11_item_4 (by decide) ?_
      refine lv_aload_n hx hb dX11_item_12 rfl (lv_at hl 0 rfl) ?_
      refine b_get hx hb hts in_X11 hown hW 0 0 11 5 rfl rW_0 rfl (by decide) ⟨rfl, rfl, rfl⟩ (hts _ q748) rW_g5 dX11_item_13 ?_
      refine b_split (fun hrf => ?_) (fun z7 hrf => ?_)
      · have hf := q_opn hf hrf
        exact hf.elim
      · have hf := q_ops hf hrf
        obtain ⟨hz8, hfN⟩ := q_cs hf; clear hf; have hz8 := of_decide_eq_true hz8; subst hz8; have hf := hfN; clear hfN
        refine lv_astore_n (lv' := [(1, .ref (g (100 + 6))), (0, .ref (adR 0))]) hx hb dX11_item_16 rfl hl (by decide) rfl (fun ls hl => ?_)
        refine lv_iconst (v := (-1)) hx hb dX11_item_17 (by decide) ?_
        refine lv_istore_n (lv' := [(2, .int (-1)), (1, .ref (g (100 + 6))), (0, .ref (adR 0))]) hx hb dX11_item_18 rfl hl (by decide) rfl (fun ls hl => ?_)
        refine lv_aload_n hx hb dX11_item_19 rfl (lv_at hl 1 rfl) ?_
        obtain ⟨r9, hc10, hf⟩ := q_b1s hf
        have hp10 : List.Perm ([rW g adR (adX 10) (adN 0) R, xW g adX (adO 0) (adT 0) iX X, vW g adN N, gW L kd nu aa, dW g none] : List va_W) ([] ++ [rW g adR (adX 10) (adN 0) R, xW g adX (adO 0) (adT 0) iX X, vW g adN N, gW L kd nu aa, dW g none]) := b_perm [] [0, 1, 2, 3, 4] 5 rfl rfl rfl rfl
        refine b_call0 ⟨rfl, rfl⟩ (va_runV (As := []) (rest := []) ⟨hx, hb, hml, hown, hts⟩ (m_J4_hashCode_k l D g H.size 6 (by decide) r9 hc10) (cwV 0 hts (lw_V q991 q992 q993 q84 q994) rfl rfl rfl (by decide +kernel) ⟨Nat.le_of_ble_eq_true rfl, Nat.le_of_ble_eq_true rfl⟩) ⟨b_blind, vk_recv (b_eK hW).1 (by decide) hW.2.2.2.1, b_pre hW hp10⟩ rfl rfl hl.1 rfl (by exact lv_room (Nat.le_of_ble_eq_true rfl)) dX11_item_20 ⟨Nat.le_of_ble_eq_true rfl, Nat.le_of_ble_eq_true rfl⟩) hW hp10 (fun _ _ H locs hW => ?_)
        have hW : bW D g A s H locs [rW g adR (adX 10) (adN 0) R, xW g adX (adO 0) (adT 0) iX X, vW g adN N, gW L kd nu aa, dW g none] := hW
        by_cases c11 : r9 = (-1106172890)
        · have hf := q_t hf c11
          refine lv_lookup (off := 77) (tgt := 100) hx hb dX11_item_23 (by decide) (by rw [c11]; decide) (by decide) ?_
          refine lv_aload_n hx hb dX11_item_100 rfl (lv_at hl 1 rfl) ?_
          refine va_ldcS hx hb hown (b_kld hW (own := "EverybodyHasTheBook$Reader") (idx := 134) (tx := "letter") (i := 3) 3 rfl) dX11_item_101 ?_
          obtain ⟨r12, hc13, hf⟩ := q_b1s hf
          have hp13 : List.Perm ([rW g adR (adX 10) (adN 0) R, xW g adX (adO 0) (adT 0) iX X, vW g adN N, gW L kd nu aa, dW g none] : List va_W) ([] ++ [rW g adR (adX 10) (adN 0) R, xW g adX (adO 0) (adT 0) iX X, vW g adN N, gW L kd nu aa, dW g none]) := b_perm [] [0, 1, 2, 3, 4] 5 rfl rfl rfl rfl
          refine b_call0 ⟨rfl, rfl⟩ (va_runV (As := [.ref (g (100 + 3))]) (rest := []) ⟨hx, hb, hml, hown, hts⟩ (m_J4_equals_k l D g H.size fu 6 3 (by decide) (by decide) r12 hc13) (cwV 1 hts (lw_V q1045 q1046 q1047 q84 q1048) rfl rfl rfl (by decide +kernel) ⟨Nat.le_of_ble_eq_true rfl, Nat.le_of_ble_eq_true rfl⟩) ⟨b_blind, vk_recv (b_eK hW).1 (by decide) hW.2.2.2.1, b_pre hW hp13⟩ rfl rfl hl.1 rfl (by exact lv_room (Nat.le_of_ble_eq_true rfl)) dX11_item_103 ⟨Nat.le_of_ble_eq_true rfl, Nat.le_of_ble_eq_true rfl⟩) hW hp13 (fun _ _ H locs hW => ?_)
          have hW : bW D g A s H locs [rW g adR (adX 10) (adN 0) R, xW g adX (adO 0) (adT 0) iX X, vW g adN N, gW L kd nu aa, dW g none] := hW
          refine lv_if_eq (tgt := 139) hx hb dX11_item_106 (by decide) (fun c14 => ?_) (fun c14 => ?_)
          · have hf := q_t hf c14
            refine lv_iload_n hx hb dX11_item_139 rfl (lv_at hl 0 rfl) ?_
            refine lv_tableOut (tgt := 225) hx hb dX11_item_140 (by decide) (by decide) ?_
            refine lv_aload_n hx hb dX11_item_225 rfl (lv_at hl 2 rfl) ?_
            have hp15 : List.Perm ([rW g adR (adX 10) (adN 0) R, xW g adX (adO 0) (adT 0) iX X, vW g adN N, gW L kd nu aa, dW g none] : List va_W) ([rW g adR (adX 10) (adN 0) R] ++ [xW g adX (adO 0) (adT 0) iX X, vW g adN N, gW L kd nu aa, dW g none]) := b_perm [0] [1, 2, 3, 4] 5 rfl rfl rfl rfl
            refine b_call (va_runV (As := []) (rest := []) ⟨hx, hb, hml, hown, hts⟩ (m_X11_wrong l D g H.size adR (adX 10) (adN 0) R) (cwV 0 hts (lw_V q968 q970 qs10 q100 q971) rfl rfl rfl (by decide +kernel) ⟨Nat.le_of_ble_eq_true rfl, Nat.le_of_ble_eq_true rfl⟩) (b_preV (pp := 0) (q := 0) hW hp15 rfl rW_0 rfl) rfl rfl hl.1 rfl (lv_room (Nat.le_of_ble_eq_true rfl)) dX11_item_226 ⟨Nat.le_of_ble_eq_true rfl, Nat.le_of_ble_eq_true rfl⟩) hW hp15 (fun zF16 _ H locs hW => ?_)
            refine W.cs (cells' := 1) (slots' := 7) rfl rfl ?_
            have hW : bW D g A s H locs [rW g adR (adX 10) (adN 0) R, [(zF16, .inr (12, xRf (R.1 0 2)))], xW g adX (adO 0) (adT 0) iX X, vW g adN N, gW L kd nu aa, dW g none] := hW
            refine vx_athrow hx hb dX11_item_229 ?_
            obtain ⟨ce16, hcell, hcv, hcl⟩ := b_xcell hW (pp := 1) (q := 0) (ci := 12) rfl rfl rfl
            exact b_outX hE hlk hno (b_perms hW (b_ord [0, 2, 3, 4, 5, 1] 6 rfl rfl rfl)) (zF16, (R.1 0 2), R, N, L, kd, nu, aa, none) rfl hcell hcv hcl ⟨rfl, rfl, hf⟩ (Nat.le_of_ble_eq_true rfl) (Nat.le_of_ble_eq_true rfl)
          · have hf := q_f hf c14
            refine lv_iconst (v := 2) hx hb dX11_item_109 (by decide) ?_
            refine lv_istore_n (lv' := [(2, .int 2), (1, .ref (g (100 + 6))), (0, .ref (adR 0))]) hx hb dX11_item_110 rfl hl (by decide) rfl (fun ls hl => ?_)
            refine lv_goto (tgt := 139) hx hb dX11_item_111 (by decide) ?_
            refine lv_iload_n hx hb dX11_item_139 rfl (lv_at hl 0 rfl) ?_
            refine lv_tableIn (off := 50) (tgt := 190) hx hb dX11_item_140 (by decide) (by decide) rfl (by decide) ?_
            refine lv_aload_n hx hb dX11_item_190 rfl (lv_at hl 2 rfl) ?_
            have hp18 : List.Perm ([rW g adR (adX 10) (adN 0) R, xW g adX (adO 0) (adT 0) iX X, vW g adN N, gW L kd nu aa, dW g none] : List va_W) ([rW g adR (adX 10) (adN 0) R, xW g adX (adO 0) (adT 0) iX X, vW g adN N, dW g none] ++ [gW L kd nu aa]) := b_perm [0, 1, 2, 4] [3] 5 rfl rfl rfl rfl
            refine b_callX (vx_runV (As := []) (rest := []) ⟨hx, hb, hml, hown, hts⟩ (m_X11_letter l D g H.size adR adX iX adN adT adO fu R X N none _ _ hf) (cwV 0 hts (lw_V q1081 q1083 qs16 q100 q1084) rfl rfl rfl (by decide +kernel) ⟨Nat.le_of_ble_eq_true rfl, Nat.le_of_ble_eq_true rfl⟩) (b_preV (pp := 0) (q := 0) hW hp18 rfl rW_0 rfl) rfl rfl hl.1 rfl (lv_room (Nat.le_of_ble_eq_true rfl)) dX11_item_191 ⟨Nat.le_of_ble_eq_true rfl, Nat.le_of_ble_eq_true rfl⟩) hW hp18 (fun E q18 ce18 u18 hok H locs hW hcell hcv hcl => ?_) (fun u18 hf H locs hW => ?_)
            · try dsimp only at hok hW
              obtain ⟨z9, by22, R19, N20, D21⟩ := u18
              obtain ⟨hE9, hq9, hf⟩ := hok; (try dsimp only at hq9 hf hW); subst hE9; subst hq9
              have hW : bW D g A s H locs [rW g adR (adX 10) (adN 0) R19, xW g adX (adO 0) (adT 0) iX X, vW g adN N20, dW g D21, [(q18, .inr (12, xRf by22))], gW L kd nu aa] := hW
              exact b_outX hE hlk hno (b_perms hW (b_ord [0, 1, 2, 5, 3, 4] 6 rfl rfl rfl)) (q18, by22, R19, N20, L, kd, nu, aa, D21) rfl hcell hcv hcl ⟨rfl, rfl, hf⟩ (Nat.le_of_ble_eq_true rfl) (Nat.le_of_ble_eq_true rfl)
            · try dsimp only at hf hW
              obtain ⟨R23, N24, D25⟩ := u18
              try dsimp only at hf hW ⊢
              refine W.cs (cells' := 19) (slots' := 613) rfl rfl ?_
              have hW : bW D g A s H locs [rW g adR (adX 10) (adN 0) R23, xW g adX (adO 0) (adT 0) iX X, vW g adN N24, dW g D25, gW L kd nu aa] := hW
              refine lv_goto (tgt := 230) hx hb dX11_item_194 (by decide) ?_
              refine b_toQ hE (fun Q hE => ?_)
              refine W.widen (k := 55) (n := 1825) (by decide) (by decide) ?_
              exact b_vret hx hb hr hlk hE (b_perms hW (b_ord [0, 1, 2, 4, 3] 5 rfl rfl rfl)) (R23, N24, L, kd, nu, aa, D25) rfl hf rfl dX11_item_230
        · have hf := q_f hf c11
          by_cases c26 : r9 = 96511
          · have hf := q_t hf c26
            refine lv_lookup (off := 91) (tgt := 114) hx hb dX11_item_23 (by decide) (by rw [c26]; decide) (by decide) ?_
            refine lv_aload_n hx hb dX11_item_114 rfl (lv_at hl 1 rfl) ?_
            refine va_ldcS hx hb hown (b_kld hW (own := "EverybodyHasTheBook$Reader") (idx := 136) (tx := "age") (i := 5) 4 rfl) dX11_item_115 ?_
            obtain ⟨r27, hc28, hf⟩ := q_b1s hf
            have hp28 : List.Perm ([rW g adR (adX 10) (adN 0) R, xW g adX (adO 0) (adT 0) iX X, vW g adN N, gW L kd nu aa, dW g none] : List va_W) ([] ++ [rW g adR (adX 10) (adN 0) R, xW g adX (adO 0) (adT 0) iX X, vW g adN N, gW L kd nu aa, dW g none]) := b_perm [] [0, 1, 2, 3, 4] 5 rfl rfl rfl rfl
            refine b_call0 ⟨rfl, rfl⟩ (va_runV (As := [.ref (g (100 + 5))]) (rest := []) ⟨hx, hb, hml, hown, hts⟩ (m_J4_equals_k l D g H.size fu 6 5 (by decide) (by decide) r27 hc28) (cwV 1 hts (lw_V q1045 q1046 q1047 q84 q1048) rfl rfl rfl (by decide +kernel) ⟨Nat.le_of_ble_eq_true rfl, Nat.le_of_ble_eq_true rfl⟩) ⟨b_blind, vk_recv (b_eK hW).1 (by decide) hW.2.2.2.1, b_pre hW hp28⟩ rfl rfl hl.1 rfl (by exact lv_room (Nat.le_of_ble_eq_true rfl)) dX11_item_117 ⟨Nat.le_of_ble_eq_true rfl, Nat.le_of_ble_eq_true rfl⟩) hW hp28 (fun _ _ H locs hW => ?_)
            have hW : bW D g A s H locs [rW g adR (adX 10) (adN 0) R, xW g adX (adO 0) (adT 0) iX X, vW g adN N, gW L kd nu aa, dW g none] := hW
            refine lv_if_eq (tgt := 139) hx hb dX11_item_120 (by decide) (fun c29 => ?_) (fun c29 => ?_)
            · have hf := q_t hf c29
              refine lv_iload_n hx hb dX11_item_139 rfl (lv_at hl 0 rfl) ?_
              refine lv_tableOut (tgt := 225) hx hb dX11_item_140 (by decide) (by decide) ?_
              refine lv_aload_n hx hb dX11_item_225 rfl (lv_at hl 2 rfl) ?_
              have hp30 : List.Perm ([rW g adR (adX 10) (adN 0) R, xW g adX (adO 0) (adT 0) iX X, vW g adN N, gW L kd nu aa, dW g none] : List va_W) ([rW g adR (adX 10) (adN 0) R] ++ [xW g adX (adO 0) (adT 0) iX X, vW g adN N, gW L kd nu aa, dW g none]) := b_perm [0] [1, 2, 3, 4] 5 rfl rfl rfl rfl
              refine b_call (va_runV (As := []) (rest := []) ⟨hx, hb, hml, hown, hts⟩ (m_X11_wrong l D g H.size adR (adX 10) (adN 0) R) (cwV 0 hts (lw_V q968 q970 qs10 q100 q971) rfl rfl rfl (by decide +kernel) ⟨Nat.le_of_ble_eq_true rfl, Nat.le_of_ble_eq_true rfl⟩) (b_preV (pp := 0) (q := 0) hW hp30 rfl rW_0 rfl) rfl rfl hl.1 rfl (lv_room (Nat.le_of_ble_eq_true rfl)) dX11_item_226 ⟨Nat.le_of_ble_eq_true rfl, Nat.le_of_ble_eq_true rfl⟩) hW hp30 (fun zF31 _ H locs hW => ?_)
              refine W.cs (cells' := 1) (slots' := 7) rfl rfl ?_
              have hW : bW D g A s H locs [rW g adR (adX 10) (adN 0) R, [(zF31, .inr (12, xRf (R.1 0 2)))], xW g adX (adO 0) (adT 0) iX X, vW g adN N, gW L kd nu aa, dW g none] := hW
              refine vx_athrow hx hb dX11_item_229 ?_
              obtain ⟨ce31, hcell, hcv, hcl⟩ := b_xcell hW (pp := 1) (q := 0) (ci := 12) rfl rfl rfl
              exact b_outX hE hlk hno (b_perms hW (b_ord [0, 2, 3, 4, 5, 1] 6 rfl rfl rfl)) (zF31, (R.1 0 2), R, N, L, kd, nu, aa, none) rfl hcell hcv hcl ⟨rfl, rfl, hf⟩ (Nat.le_of_ble_eq_true rfl) (Nat.le_of_ble_eq_true rfl)
            · have hf := q_f hf c29
              refine lv_iconst (v := 3) hx hb dX11_item_123 (by decide) ?_
              refine lv_istore_n (lv' := [(2, .int 3), (1, .ref (g (100 + 6))), (0, .ref (adR 0))]) hx hb dX11_item_124 rfl hl (by decide) rfl (fun ls hl => ?_)
              refine lv_goto (tgt := 139) hx hb dX11_item_125 (by decide) ?_
              refine lv_iload_n hx hb dX11_item_139 rfl (lv_at hl 0 rfl) ?_
              refine lv_tableIn (off := 57) (tgt := 197) hx hb dX11_item_140 (by decide) (by decide) rfl (by decide) ?_
              refine lv_aload_n hx hb dX11_item_197 rfl (lv_at hl 2 rfl) ?_
              have hp33 : List.Perm ([rW g adR (adX 10) (adN 0) R, xW g adX (adO 0) (adT 0) iX X, vW g adN N, gW L kd nu aa, dW g none] : List va_W) ([rW g adR (adX 10) (adN 0) R, xW g adX (adO 0) (adT 0) iX X] ++ [vW g adN N, gW L kd nu aa, dW g none]) := b_perm [0, 1] [2, 3, 4] 5 rfl rfl rfl rfl
              refine b_call (va_runV (As := []) (rest := []) ⟨hx, hb, hml, hown, hts⟩ (m_X11_next l D g H.size adR adX adN adO adT iX fu R X _ hf) (cwV 0 hts (lw_V q769 q771 qs7 q100 q772) rfl rfl rfl (by decide +kernel) ⟨Nat.le_of_ble_eq_true rfl, Nat.le_of_ble_eq_true rfl⟩) (b_preV (pp := 0) (q := 0) hW hp33 rfl rW_0 rfl) rfl rfl hl.1 rfl (lv_room (Nat.le_of_ble_eq_true rfl)) dX11_item_198 ⟨Nat.le_of_ble_eq_true rfl, Nat.le_of_ble_eq_true rfl⟩) hW hp33 (fun u33 hf H locs hW => ?_)
              obtain ⟨R34, D35⟩ := u33; try dsimp only at hf hW
              refine W.cs (cells' := 6) (slots' := 202) rfl rfl ?_
              have hW : bW D g A s H locs [rW g adR (adX 10) (adN 0) R34, xW g adX (adO 0) (adT 0) iX X, dW g D35, vW g adN N, gW L kd nu aa, dW g none] := hW
              have hW := b_sub (Bs' := [rW g adR (adX 10) (adN 0) R34, xW g adX (adO 0) (adT 0) iX X, dW g D35, vW g adN N, gW L kd nu aa]) (wr := [dW g none]) hW (b_ord [0, 1, 2, 3, 4, 5] 6 rfl rfl rfl)
              have hW : bW D g A s H locs [rW g adR (adX 10) (adN 0) R34, xW g adX (adO 0) (adT 0) iX X, dW g D35, vW g adN N, gW L kd nu aa] := hW
              refine lv_aload_n hx hb dX11_item_201 rfl (lv_at hl 2 rfl) ?_
              refine b_get hx hb hts in_X11 hown hW 0 0 11 2 rfl rW_0 rfl (by decide) ⟨rfl, rfl, rfl⟩ (hts _ q744) rW_g2 dX11_item_202 ?_
              refine lv_aload_n hx hb dX11_item_205 rfl (lv_at hl 2 rfl) ?_
              refine lv_iconst (v := 0) hx hb dX11_item_206 (by decide) ?_
              refine lv_bipush (v := 99) hx hb dX11_item_207 (by decide) ?_
              have hp36 : List.Perm ([rW g adR (adX 10) (adN 0) R34, xW g adX (adO 0) (adT 0) iX X, dW g D35, vW g adN N, gW L kd nu aa] : List va_W) ([rW g adR (adX 10) (adN 0) R34, xW g adX (adO 0) (adT 0) iX X, dW g D35] ++ [vW g adN N, gW L kd nu aa]) := b_perm [0, 1, 2] [3, 4] 5 rfl rfl rfl rfl
              refine b_callX (vx_runV (As := [.int 0, .int 99]) (rest := [.ref (adN 0)]) ⟨hx, hb, hml, hown, hts⟩ (m_X11_number l D g H.size adR adX iX adN adT adO fu R34 X D35 0 99 _ _ hf) (cwV 2 hts (lw_V q1065 q1067 qs13 q100 q1068) rfl rfl rfl (by decide +kernel) ⟨Nat.le_of_ble_eq_true rfl, Nat.le_of_ble_eq_true rfl⟩) (b_preV (pp := 0) (q := 0) hW hp36 rfl rW_0 rfl) rfl rfl hl.1 rfl (lv_room (Nat.le_of_ble_eq_true rfl)) dX11_item_209 ⟨Nat.le_of_ble_eq_true rfl, Nat.le_of_ble_eq_true rfl⟩) hW hp36 (fun E q36 ce36 u36 hok H locs hW hcell hcv hcl => ?_) (fun u36 hf H locs hW => ?_)
              · try dsimp only at hok hW
                obtain ⟨z9, by39, R37, D38⟩ := u36
                obtain ⟨hE9, hq9, hf⟩ := hok; (try dsimp only at hq9 hf hW); subst hE9; subst hq9
                have hW : bW D g A s H locs [rW g adR (adX 10) (adN 0) R37, xW g adX (adO 0) (adT 0) iX X, dW g D38, [(q36, .inr (12, xRf by39))], vW g adN N, gW L kd nu aa] := hW
                exact b_outX hE hlk hno (b_perms hW (b_ord [0, 1, 4, 5, 2, 3] 6 rfl rfl rfl)) (q36, by39, R37, N, L, kd, nu, aa, D38) rfl hcell hcv hcl ⟨rfl, rfl, hf⟩ (Nat.le_of_ble_eq_true rfl) (Nat.le_of_ble_eq_true rfl)
              · try dsimp only at hf hW
                obtain ⟨r40, R41, D42⟩ := u36
                try dsimp only at hf hW ⊢
                refine W.cs (cells' := 12) (slots' := 404) rfl rfl ?_
                have hW : bW D g A s H locs [rW g adR (adX 10) (adN 0) R41, xW g adX (adO 0) (adT 0) iX X, dW g D42, vW g adN N, gW L kd nu aa] := hW
                obtain ⟨N43, eN43, hf⟩ := q_ls hf
                refine b_put hx hb hts in_X1 tyX1 tyX1_ok nmX1 hown hW 3 0 1 14 rfl vW_0 (vW_p14 eN43) rfl rfl (by decide) ⟨rfl, rfl, rfl⟩ (hts _ q173) rfl (ty := .int) rfl rfl rfl (by rw [vW_l]; decide) dX11_item_212 (fun H locs hW => ?_)
                have hW : bW D g A s H locs [rW g adR (adX 10) (adN 0) R41, xW g adX (adO 0) (adT 0) iX X, dW g D42, vW g adN N43, gW L kd nu aa] := hW
                refine lv_goto (tgt := 230) hx hb dX11_item_215 (by decide) ?_
                refine b_toQ hE (fun Q hE => ?_)
                refine W.widen (k := 55) (n := 1825) (by decide) (by decide) ?_
                exact b_vret hx hb hr hlk hE (b_perms hW (b_ord [0, 1, 3, 4, 2] 5 rfl rfl rfl)) (R41, N43, L, kd, nu, aa, D42) rfl hf rfl dX11_item_230
          · have hf := q_f hf c26
            by_cases c44 : r9 = 104425
            · have hf := q_t hf c44
              refine lv_lookup (off := 49) (tgt := 72) hx hb dX11_item_23 (by decide) (by rw [c44]; decide) (by decide) ?_
              refine lv_aload_n hx hb dX11_item_72 rfl (lv_at hl 1 rfl) ?_
              refine va_ldcS hx hb hown (b_kld hW (own := "EverybodyHasTheBook$Reader") (idx := 130) (tx := "inn") (i := 1) 1 rfl) dX11_item_73 ?_
              obtain ⟨r45, hc46, hf⟩ := q_b1s hf
              have hp46 : List.Perm ([rW g adR (adX 10) (adN 0) R, xW g adX (adO 0) (adT 0) iX X, vW g adN N, gW L kd nu aa, dW g none] : List va_W) ([] ++ [rW g adR (adX 10) (adN 0) R, xW g adX (adO 0) (adT 0) iX X, vW g adN N, gW L kd nu aa, dW g none]) := b_perm [] [0, 1, 2, 3, 4] 5 rfl rfl rfl rfl
              refine b_call0 ⟨rfl, rfl⟩ (va_runV (As := [.ref (g (100 + 1))]) (rest := []) ⟨hx, hb, hml, hown, hts⟩ (m_J4_equals_k l D g H.size fu 6 1 (by decide) (by decide) r45 hc46) (cwV 1 hts (lw_V q1045 q1046 q1047 q84 q1048) rfl rfl rfl (by decide +kernel) ⟨Nat.le_of_ble_eq_true rfl, Nat.le_of_ble_eq_true rfl⟩) ⟨b_blind, vk_recv (b_eK hW).1 (by decide) hW.2.2.2.1, b_pre hW hp46⟩ rfl rfl hl.1 rfl (by exact lv_room (Nat.le_of_ble_eq_true rfl)) dX11_item_75 ⟨Nat.le_of_ble_eq_true rfl, Nat.le_of_ble_eq_true rfl⟩) hW hp46 (fun _ _ H locs hW => ?_)
              have hW : bW D g A s H locs [rW g adR (adX 10) (adN 0) R, xW g adX (adO 0) (adT 0) iX X, vW g adN N, gW L kd nu aa, dW g none] := hW
              refine lv_if_eq (tgt := 139) hx hb dX11_item_78 (by decide) (fun c47 => ?_) (fun c47 => ?_)
              · have hf := q_t hf c47
                refine lv_iload_n hx hb dX11_item_139 rfl (lv_at hl 0 rfl) ?_
                refine lv_tableOut (tgt := 225) hx hb dX11_item_140 (by decide) (by decide) ?_
                refine lv_aload_n hx hb dX11_item_225 rfl (lv_at hl 2 rfl) ?_
                have hp48 : List.Perm ([rW g adR (adX 10) (adN 0) R, xW g adX (adO 0) (adT 0) iX X, vW g adN N, gW L kd nu aa, dW g none] : List va_W) ([rW g adR (adX 10) (adN 0) R] ++ [xW g adX (adO 0) (adT 0) iX X, vW g adN N, gW L kd nu aa, dW g none]) := b_perm [0] [1, 2, 3, 4] 5 rfl rfl rfl rfl
                refine b_call (va_runV (As := []) (rest := []) ⟨hx, hb, hml, hown, hts⟩ (m_X11_wrong l D g H.size adR (adX 10) (adN 0) R) (cwV 0 hts (lw_V q968 q970 qs10 q100 q971) rfl rfl rfl (by decide +kernel) ⟨Nat.le_of_ble_eq_true rfl, Nat.le_of_ble_eq_true rfl⟩) (b_preV (pp := 0) (q := 0) hW hp48 rfl rW_0 rfl) rfl rfl hl.1 rfl (lv_room (Nat.le_of_ble_eq_true rfl)) dX11_item_226 ⟨Nat.le_of_ble_eq_true rfl, Nat.le_of_ble_eq_true rfl⟩) hW hp48 (fun zF49 _ H locs hW => ?_)
                refine W.cs (cells' := 1) (slots' := 7) rfl rfl ?_
                have hW : bW D g A s H locs [rW g adR (adX 10) (adN 0) R, [(zF49, .inr (12, xRf (R.1 0 2)))], xW g adX (adO 0) (adT 0) iX X, vW g adN N, gW L kd nu aa, dW g none] := hW
                refine vx_athrow hx hb dX11_item_229 ?_
                obtain ⟨ce49, hcell, hcv, hcl⟩ := b_xcell hW (pp := 1) (q := 0) (ci := 12) rfl rfl rfl
                exact b_outX hE hlk hno (b_perms hW (b_ord [0, 2, 3, 4, 5, 1] 6 rfl rfl rfl)) (zF49, (R.1 0 2), R, N, L, kd, nu, aa, none) rfl hcell hcv hcl ⟨rfl, rfl, hf⟩ (Nat.le_of_ble_eq_true rfl) (Nat.le_of_ble_eq_true rfl)
              · have hf := q_f hf c47
                refine lv_iconst (v := 0) hx hb dX11_item_81 (by decide) ?_
                refine lv_istore_n (lv' := [(2, .int 0), (1, .ref (g (100 + 6))), (0, .ref (adR 0))]) hx hb dX11_item_82 rfl hl (by decide) rfl (fun ls hl => ?_)
                refine lv_goto (tgt := 139) hx hb dX11_item_83 (by decide) ?_
                refine lv_iload_n hx hb dX11_item_139 rfl (lv_at hl 0 rfl) ?_
                refine lv_tableIn (off := 36) (tgt := 176) hx hb dX11_item_140 (by decide) (by decide) rfl (by decide) ?_
                refine lv_aload_n hx hb dX11_item_176 rfl (lv_at hl 2 rfl) ?_
                have hp51 : List.Perm ([rW g adR (adX 10) (adN 0) R, xW g adX (adO 0) (adT 0) iX X, vW g adN N, gW L kd nu aa, dW g none] : List va_W) ([rW g adR (adX 10) (adN 0) R, xW g adX (adO 0) (adT 0) iX X, vW g adN N, dW g none] ++ [gW L kd nu aa]) := b_perm [0, 1, 2, 4] [3] 5 rfl rfl rfl rfl
                refine b_callX (vx_runV (As := []) (rest := []) ⟨hx, hb, hml, hown, hts⟩ (m_X11_inn l D g H.size adR adX iX adN adT adO fu R X N none _ _ hf) (cwV 0 hts (lw_V q1057 q1059 qs11 q100 q1060) rfl rfl rfl (by decide +kernel) ⟨Nat.le_of_ble_eq_true rfl, Nat.le_of_ble_eq_true rfl⟩) (b_preV (pp := 0) (q := 0) hW hp51 rfl rW_0 rfl) rfl rfl hl.1 rfl (lv_room (Nat.le_of_ble_eq_true rfl)) dX11_item_177 ⟨Nat.le_of_ble_eq_true rfl, Nat.le_of_ble_eq_true rfl⟩) hW hp51 (fun E q51 ce51 u51 hok H locs hW hcell hcv hcl => ?_) (fun u51 hf H locs hW => ?_)
                · try dsimp only at hok hW
                  obtain ⟨z9, by55, R52, N53, D54⟩ := u51
                  obtain ⟨hE9, hq9, hf⟩ := hok; (try dsimp only at hq9 hf hW); subst hE9; subst hq9
                  have hW : bW D g A s H locs [rW g adR (adX 10) (adN 0) R52, xW g adX (adO 0) (adT 0) iX X, vW g adN N53, dW g D54, [(q51, .inr (12, xRf by55))], gW L kd nu aa] := hW
                  exact b_outX hE hlk hno (b_perms hW (b_ord [0, 1, 2, 5, 3, 4] 6 rfl rfl rfl)) (q51, by55, R52, N53, L, kd, nu, aa, D54) rfl hcell hcv hcl ⟨rfl, rfl, hf⟩ (Nat.le_of_ble_eq_true rfl) (Nat.le_of_ble_eq_true rfl)
                · try dsimp only at hf hW
                  obtain ⟨R56, N57, D58⟩ := u51
                  try dsimp only at hf hW ⊢
                  refine W.cs (cells' := 36) (slots' := 1212) rfl rfl ?_
                  have hW : bW D g A s H locs [rW g adR (adX 10) (adN 0) R56, xW g adX (adO 0) (adT 0) iX X, vW g adN N57, dW g D58, gW L kd nu aa] := hW
                  refine lv_goto (tgt := 230) hx hb dX11_item_180 (by decide) ?_
                  refine b_toQ hE (fun Q hE => ?_)
                  refine W.widen (k := 55) (n := 1825) (by decide) (by decide) ?_
                  exact b_vret hx hb hr hlk hE (b_perms hW (b_ord [0, 1, 2, 4, 3] 5 rfl rfl rfl)) (R56, N57, L, kd, nu, aa, D58) rfl hf rfl dX11_item_230
            · have hf := q_f hf c44
              by_cases c59 : r9 = 3178389
              · have hf := q_t hf c59
                refine lv_lookup (off := 63) (tgt := 86) hx hb dX11_item_23 (by decide) (by rw [c59]; decide) (by decide) ?_
                refine lv_aload_n hx hb dX11_item_86 rfl (lv_at hl 1 rfl) ?_
                refine va_ldcS hx hb hown (b_kld hW (own := "EverybodyHasTheBook$Reader") (idx := 132) (tx := "goer") (i := 2) 2 rfl) dX11_item_87 ?_
                obtain ⟨r60, hc61, hf⟩ := q_b1s hf
                have hp61 : List.Perm ([rW g adR (adX 10) (adN 0) R, xW g adX (adO 0) (adT 0) iX X, vW g adN N, gW L kd nu aa, dW g none] : List va_W) ([] ++ [rW g adR (adX 10) (adN 0) R, xW g adX (adO 0) (adT 0) iX X, vW g adN N, gW L kd nu aa, dW g none]) := b_perm [] [0, 1, 2, 3, 4] 5 rfl rfl rfl rfl
                refine b_call0 ⟨rfl, rfl⟩ (va_runV (As := [.ref (g (100 + 2))]) (rest := []) ⟨hx, hb, hml, hown, hts⟩ (m_J4_equals_k l D g H.size fu 6 2 (by decide) (by decide) r60 hc61) (cwV 1 hts (lw_V q1045 q1046 q1047 q84 q1048) rfl rfl rfl (by decide +kernel) ⟨Nat.le_of_ble_eq_true rfl, Nat.le_of_ble_eq_true rfl⟩) ⟨b_blind, vk_recv (b_eK hW).1 (by decide) hW.2.2.2.1, b_pre hW hp61⟩ rfl rfl hl.1 rfl (by exact lv_room (Nat.le_of_ble_eq_true rfl)) dX11_item_89 ⟨Nat.le_of_ble_eq_true rfl, Nat.le_of_ble_eq_true rfl⟩) hW hp61 (fun _ _ H locs hW => ?_)
                have hW : bW D g A s H locs [rW g adR (adX 10) (adN 0) R, xW g adX (adO 0) (adT 0) iX X, vW g adN N, gW L kd nu aa, dW g none] := hW
                refine lv_if_eq (tgt := 139) hx hb dX11_item_92 (by decide) (fun c62 => ?_) (fun c62 => ?_)
                · have hf := q_t hf c62
                  refine lv_iload_n hx hb dX11_item_139 rfl (lv_at hl 0 rfl) ?_
                  refine lv_tableOut (tgt := 225) hx hb dX11_item_140 (by decide) (by decide) ?_
                  refine lv_aload_n hx hb dX11_item_225 rfl (lv_at hl 2 rfl) ?_
                  have hp63 : List.Perm ([rW g adR (adX 10) (adN 0) R, xW g adX (adO 0) (adT 0) iX X, vW g adN N, gW L kd nu aa, dW g none] : List va_W) ([rW g adR (adX 10) (adN 0) R] ++ [xW g adX (adO 0) (adT 0) iX X, vW g adN N, gW L kd nu aa, dW g none]) := b_perm [0] [1, 2, 3, 4] 5 rfl rfl rfl rfl
                  refine b_call (va_runV (As := []) (rest := []) ⟨hx, hb, hml, hown, hts⟩ (m_X11_wrong l D g H.size adR (adX 10) (adN 0) R) (cwV 0 hts (lw_V q968 q970 qs10 q100 q971) rfl rfl rfl (by decide +kernel) ⟨Nat.le_of_ble_eq_true rfl, Nat.le_of_ble_eq_true rfl⟩) (b_preV (pp := 0) (q := 0) hW hp63 rfl rW_0 rfl) rfl rfl hl.1 rfl (lv_room (Nat.le_of_ble_eq_true rfl)) dX11_item_226 ⟨Nat.le_of_ble_eq_true rfl, Nat.le_of_ble_eq_true rfl⟩) hW hp63 (fun zF64 _ H locs hW => ?_)
                  refine W.cs (cells' := 1) (slots' := 7) rfl rfl ?_
                  have hW : bW D g A s H locs [rW g adR (adX 10) (adN 0) R, [(zF64, .inr (12, xRf (R.1 0 2)))], xW g adX (adO 0) (adT 0) iX X, vW g adN N, gW L kd nu aa, dW g none] := hW
                  refine vx_athrow hx hb dX11_item_229 ?_
                  obtain ⟨ce64, hcell, hcv, hcl⟩ := b_xcell hW (pp := 1) (q := 0) (ci := 12) rfl rfl rfl
                  exact b_outX hE hlk hno (b_perms hW (b_ord [0, 2, 3, 4, 5, 1] 6 rfl rfl rfl)) (zF64, (R.1 0 2), R, N, L, kd, nu, aa, none) rfl hcell hcv hcl ⟨rfl, rfl, hf⟩ (Nat.le_of_ble_eq_true rfl) (Nat.le_of_ble_eq_true rfl)
                · have hf := q_f hf c62
                  refine lv_iconst (v := 1) hx hb dX11_item_95 (by decide) ?_
                  refine lv_istore_n (lv' := [(2, .int 1), (1, .ref (g (100 + 6))), (0, .ref (adR 0))]) hx hb dX11_item_96 rfl hl (by decide) rfl (fun ls hl => ?_)
                  refine lv_goto (tgt := 139) hx hb dX11_item_97 (by decide) ?_
                  refine lv_iload_n hx hb dX11_item_139 rfl (lv_at hl 0 rfl) ?_
                  refine lv_tableIn (off := 43) (tgt := 183) hx hb dX11_item_140 (by decide) (by decide) rfl (by decide) ?_
                  refine lv_aload_n hx hb dX11_item_183 rfl (lv_at hl 2 rfl) ?_
                  have hp66 : List.Perm ([rW g adR (adX 10) (adN 0) R, xW g adX (adO 0) (adT 0) iX X, vW g adN N, gW L kd nu aa, dW g none] : List va_W) ([rW g adR (adX 10) (adN 0) R, xW g adX (adO 0) (adT 0) iX X, vW g adN N, gW L kd nu aa, dW g none] ++ []) := b_perm [0, 1, 2, 3, 4] [] 5 rfl rfl rfl rfl
                  refine b_callX (vx_runV (As := []) (rest := []) ⟨hx, hb, hml, hown, hts⟩ (m_X11_goer l D g H.size adR adX iX adN adT adO fu R X N L kd nu aa none _ _ hf) (cwV 0 hts (lw_V q1075 q1077 qs15 q100 q1078) rfl rfl rfl (by decide +kernel) ⟨Nat.le_of_ble_eq_true rfl, Nat.le_of_ble_eq_true rfl⟩) (b_preV (pp := 0) (q := 0) hW hp66 rfl rW_0 rfl) rfl rfl hl.1 rfl (lv_room (Nat.le_of_ble_eq_true rfl)) dX11_item_184 ⟨Nat.le_of_ble_eq_true rfl, Nat.le_of_ble_eq_true rfl⟩) hW hp66 (fun E q66 ce66 u66 hok H locs hW hcell hcv hcl => ?_) (fun u66 hf H locs hW => ?_)
                  · try dsimp only at hok hW
                    obtain ⟨z9, by74, R67, N68, L69, kd70, nu71, aa72, D73⟩ := u66
                    obtain ⟨hE9, hq9, hf⟩ := hok; (try dsimp only at hq9 hf hW); subst hE9; subst hq9
                    have hW : bW D g A s H locs [rW g adR (adX 10) (adN 0) R67, xW g adX (adO 0) (adT 0) iX X, vW g adN N68, gW L69 kd70 nu71 aa72, dW g D73, [(q66, .inr (12, xRf by74))]] := hW
                    exact b_outX hE hlk hno hW (q66, by74, R67, N68, L69, kd70, nu71, aa72, D73) rfl hcell hcv hcl ⟨rfl, rfl, hf⟩ (Nat.le_of_ble_eq_true rfl) (Nat.le_of_ble_eq_true rfl)
                  · try dsimp only at hf hW
                    obtain ⟨R75, N76, L77, kd78, nu79, aa80, D81⟩ := u66
                    try dsimp only at hf hW ⊢
                    refine W.cs (cells' := 25) (slots' := 810) rfl rfl ?_
                    have hW : bW D g A s H locs [rW g adR (adX 10) (adN 0) R75, xW g adX (adO 0) (adT 0) iX X, vW g adN N76, gW L77 kd78 nu79 aa80, dW g D81] := hW
                    refine lv_goto (tgt := 230) hx hb dX11_item_187 (by decide) ?_
                    refine b_toQ hE (fun Q hE => ?_)
                    refine W.widen (k := 55) (n := 1825) (by decide) (by decide) ?_
                    exact b_vret hx hb hr hlk hE hW (R75, N76, L77, kd78, nu79, aa80, D81) rfl hf rfl dX11_item_230
              · have hf := q_f hf c59
                by_cases c82 : r9 = 113399775
                · have hf := q_t hf c82
                  refine lv_lookup (off := 105) (tgt := 128) hx hb dX11_item_23 (by decide) (by rw [c82]; decide) (by decide) ?_
                  refine lv_aload_n hx hb dX11_item_128 rfl (lv_at hl 1 rfl) ?_
                  refine va_ldcS hx hb hown (b_kld hW (own := "EverybodyHasTheBook$Reader") (idx := 138) (tx := "write") (i := 4) 5 rfl) dX11_item_129 ?_
                  obtain ⟨r83, hc84, hf⟩ := q_b1s hf
                  have hp84 : List.Perm ([rW g adR (adX 10) (adN 0) R, xW g adX (adO 0) (adT 0) iX X, vW g adN N, gW L kd nu aa, dW g none] : List va_W) ([] ++ [rW g adR (adX 10) (adN 0) R, xW g adX (adO 0) (adT 0) iX X, vW g adN N, gW L kd nu aa, dW g none]) := b_perm [] [0, 1, 2, 3, 4] 5 rfl rfl rfl rfl
                  refine b_call0 ⟨rfl, rfl⟩ (va_runV (As := [.ref (g (100 + 4))]) (rest := []) ⟨hx, hb, hml, hown, hts⟩ (m_J4_equals_k l D g H.size fu 6 4 (by decide) (by decide) r83 hc84) (cwV 1 hts (lw_V q1045 q1046 q1047 q84 q1048) rfl rfl rfl (by decide +kernel) ⟨Nat.le_of_ble_eq_true rfl, Nat.le_of_ble_eq_true rfl⟩) ⟨b_blind, vk_recv (b_eK hW).1 (by decide) hW.2.2.2.1, b_pre hW hp84⟩ rfl rfl hl.1 rfl (by exact lv_room (Nat.le_of_ble_eq_true rfl)) dX11_item_131 ⟨Nat.le_of_ble_eq_true rfl, Nat.le_of_ble_eq_true rfl⟩) hW hp84 (fun _ _ H locs hW => ?_)
                  have hW : bW D g A s H locs [rW g adR (adX 10) (adN 0) R, xW g adX (adO 0) (adT 0) iX X, vW g adN N, gW L kd nu aa, dW g none] := hW
                  refine lv_if_eq (tgt := 139) hx hb dX11_item_134 (by decide) (fun c85 => ?_) (fun c85 => ?_)
                  · have hf := q_t hf c85
                    refine lv_iload_n hx hb dX11_item_139 rfl (lv_at hl 0 rfl) ?_
                    refine lv_tableOut (tgt := 225) hx hb dX11_item_140 (by decide) (by decide) ?_
                    refine lv_aload_n hx hb dX11_item_225 rfl (lv_at hl 2 rfl) ?_
                    have hp86 : List.Perm ([rW g adR (adX 10) (adN 0) R, xW g adX (adO 0) (adT 0) iX X, vW g adN N, gW L kd nu aa, dW g none] : List va_W) ([rW g adR (adX 10) (adN 0) R] ++ [xW g adX (adO 0) (adT 0) iX X, vW g adN N, gW L kd nu aa, dW g none]) := b_perm [0] [1, 2, 3, 4] 5 rfl rfl rfl rfl
                    refine b_call (va_runV (As := []) (rest := []) ⟨hx, hb, hml, hown, hts⟩ (m_X11_wrong l D g H.size adR (adX 10) (adN 0) R) (cwV 0 hts (lw_V q968 q970 qs10 q100 q971) rfl rfl rfl (by decide +kernel) ⟨Nat.le_of_ble_eq_true rfl, Nat.le_of_ble_eq_true rfl⟩) (b_preV (pp := 0) (q := 0) hW hp86 rfl rW_0 rfl) rfl rfl hl.1 rfl (lv_room (Nat.le_of_ble_eq_true rfl)) dX11_item_226 ⟨Nat.le_of_ble_eq_true rfl, Nat.le_of_ble_eq_true rfl⟩) hW hp86 (fun zF87 _ H locs hW => ?_)
                    refine W.cs (cells' := 1) (slots' := 7) rfl rfl ?_
                    have hW : bW D g A s H locs [rW g adR (adX 10) (adN 0) R, [(zF87, .inr (12, xRf (R.1 0 2)))], xW g adX (adO 0) (adT 0) iX X, vW g adN N, gW L kd nu aa, dW g none] := hW
                    refine vx_athrow hx hb dX11_item_229 ?_
                    obtain ⟨ce87, hcell, hcv, hcl⟩ := b_xcell hW (pp := 1) (q := 0) (ci := 12) rfl rfl rfl
                    exact b_outX hE hlk hno (b_perms hW (b_ord [0, 2, 3, 4, 5, 1] 6 rfl rfl rfl)) (zF87, (R.1 0 2), R, N, L, kd, nu, aa, none) rfl hcell hcv hcl ⟨rfl, rfl, hf⟩ (Nat.le_of_ble_eq_true rfl) (Nat.le_of_ble_eq_true rfl)
                  · have hf := q_f hf c85
                    refine lv_iconst (v := 4) hx hb dX11_item_137 (by decide) ?_
                    refine lv_istore_n (lv' := [(2, .int 4), (1, .ref (g (100 + 6))), (0, .ref (adR 0))]) hx hb dX11_item_138 rfl hl (by decide) rfl (fun ls hl => ?_)
                    refine lv_iload_n hx hb dX11_item_139 rfl (lv_at hl 0 rfl) ?_
                    refine lv_tableIn (off := 78) (tgt := 218) hx hb dX11_item_140 (by decide) (by decide) rfl (by decide) ?_
                    refine lv_aload_n hx hb dX11_item_218 rfl (lv_at hl 2 rfl) ?_
                    have hp89 : List.Perm ([rW g adR (adX 10) (adN 0) R, xW g adX (adO 0) (adT 0) iX X, vW g adN N, gW L kd nu aa, dW g none] : List va_W) ([rW g adR (adX 10) (adN 0) R, xW g adX (adO 0) (adT 0) iX X, vW g adN N, gW L kd nu aa, dW g none] ++ []) := b_perm [0, 1, 2, 3, 4] [] 5 rfl rfl rfl rfl
                    refine b_callX (vx_runV (As := []) (rest := []) ⟨hx, hb, hml, hown, hts⟩ (m_X11_write l D g H.size adR adX iX adN adT adO fu R X N L kd nu aa none _ _ hf) (cwV 0 hts (lw_V q1087 q1089 qs17 q100 q1090) rfl rfl rfl (by decide +kernel) ⟨Nat.le_of_ble_eq_true rfl, Nat.le_of_ble_eq_true rfl⟩) (b_preV (pp := 0) (q := 0) hW hp89 rfl rW_0 rfl) rfl rfl hl.1 rfl (lv_room (Nat.le_of_ble_eq_true rfl)) dX11_item_219 ⟨Nat.le_of_ble_eq_true rfl, Nat.le_of_ble_eq_true rfl⟩) hW hp89 (fun E q89 ce89 u89 hok H locs hW hcell hcv hcl => ?_) (fun u89 hf H locs hW => ?_)
                    · try dsimp only at hok hW
                      obtain ⟨z9, by93, R90, N91, D92⟩ := u89
                      obtain ⟨hE9, hq9, hf⟩ := hok; (try dsimp only at hq9 hf hW); subst hE9; subst hq9
                      have hW : bW D g A s H locs [rW g adR (adX 10) (adN 0) R90, xW g adX (adO 0) (adT 0) iX X, vW g adN N91, gW L kd nu aa, dW g D92, [(q89, .inr (12, xRf by93))]] := hW
                      exact b_outX hE hlk hno hW (q89, by93, R90, N91, L, kd, nu, aa, D92) rfl hcell hcv hcl ⟨rfl, rfl, hf⟩ (Nat.le_of_ble_eq_true rfl) (Nat.le_of_ble_eq_true rfl)
                    · try dsimp only at hf hW
                      obtain ⟨R94, N95, D96⟩ := u89
                      try dsimp only at hf hW ⊢
                      refine W.cs (cells' := 55) (slots' := 1825) rfl rfl ?_
                      have hW : bW D g A s H locs [rW g adR (adX 10) (adN 0) R94, xW g adX (adO 0) (adT 0) iX X, vW g adN N95, gW L kd nu aa, dW g D96] := hW
                      refine lv_goto (tgt := 230) hx hb dX11_item_222 (by decide) ?_
                      refine b_toQ hE (fun Q hE => ?_)
                      refine W.widen (k := 55) (n := 1825) (by decide) (by decide) ?_
                      exact b_vret hx hb hr hlk hE hW (R94, N95, L, kd, nu, aa, D96) rfl hf rfl dX11_item_230
                · have hf := q_f hf c82
                  refine lv_lookup (off := 116) (tgt := 139) hx hb dX11_item_23 (by decide) (Eq.trans (lv_osw c11 rfl) (Eq.trans (lv_osw c26 rfl) (Eq.trans (lv_osw c44 rfl) (Eq.trans (lv_osw c59 rfl) (Eq.trans (lv_osw c82 rfl) rfl))))) (by decide) ?_
                  refine lv_iload_n hx hb dX11_item_139 rfl (lv_at hl 0 rfl) ?_
                  refine lv_tableOut (tgt := 225) hx hb dX11_item_140 (by decide) (by decide) ?_
                  refine lv_aload_n hx hb dX11_item_225 rfl (lv_at hl 2 rfl) ?_
                  have hp97 : List.Perm ([rW g adR (adX 10) (adN 0) R, xW g adX (adO 0) (adT 0) iX X, vW g adN N, gW L kd nu aa, dW g none] : List va_W) ([rW g adR (adX 10) (adN 0) R] ++ [xW g adX (adO 0) (adT 0) iX X, vW g adN N, gW L kd nu aa, dW g none]) := b_perm [0] [1, 2, 3, 4] 5 rfl rfl rfl rfl
                  refine b_call (va_runV (As := []) (rest := []) ⟨hx, hb, hml, hown, hts⟩ (m_X11_wrong l D g H.size adR (adX 10) (adN 0) R) (cwV 0 hts (lw_V q968 q970 qs10 q100 q971) rfl rfl rfl (by decide +kernel) ⟨Nat.le_of_ble_eq_true rfl, Nat.le_of_ble_eq_true rfl⟩) (b_preV (pp := 0) (q := 0) hW hp97 rfl rW_0 rfl) rfl rfl hl.1 rfl (lv_room (Nat.le_of_ble_eq_true rfl)) dX11_item_226 ⟨Nat.le_of_ble_eq_true rfl, Nat.le_of_ble_eq_true rfl⟩) hW hp97 (fun zF98 _ H locs hW => ?_)
                  refine W.cs (cells' := 1) (slots' := 7) rfl rfl ?_
                  have hW : bW D g A s H locs [rW g adR (adX 10) (adN 0) R, [(zF98, .inr (12, xRf (R.1 0 2)))], xW g adX (adO 0) (adT 0) iX X, vW g adN N, gW L kd nu aa, dW g none] := hW
                  refine vx_athrow hx hb dX11_item_229 ?_
                  obtain ⟨ce98, hcell, hcv, hcl⟩ := b_xcell hW (pp := 1) (q := 0) (ci := 12) rfl rfl rfl
                  exact b_outX hE hlk hno (b_perms hW (b_ord [0, 2, 3, 4, 5, 1] 6 rfl rfl rfl)) (zF98, (R.1 0 2), R, N, L, kd, nu, aa, none) rfl hcell hcv hcl ⟨rfl, rfl, hf⟩ (Nat.le_of_ble_eq_true rfl) (Nat.le_of_ble_eq_true rfl)
    · have hf := q_ods hf
      obtain ⟨hz6, hfN⟩ := q_cs hf; clear hf; have hz6 := (of_decide_eq_true hz6).symm; subst hz6; have hf := hfN; clear hfN
      have hW : bW D g A s H _ [rW g adR (adX 10) (adN 0) R, xW g adX (adO 0) (adT 0) iX X, vW g adN N, gW L kd nu aa, dE g (qD5, bD5, nD5, fD5, hD5, hzD5)] := hW
      refine lv_ifnonnull (tgt := 12) hx hb dX11_item_4 (by decide) ?_
      refine lv_aload_n hx hb dX11_item_12 rfl (lv_at hl 0 rfl) ?_
      refine b_get hx hb hts in_X11 hown hW 0 0 11 5 rfl rW_0 rfl (by decide) ⟨rfl, rfl, rfl⟩ (hts _ q748) rW_g5 dX11_item_13 ?_
      refine b_split (fun hrf => ?_) (fun z100 hrf => ?_)
      · have hf := q_opn hf hrf
        exact hf.elim
      · have hf := q_ops hf hrf
        obtain ⟨hz101, hfN⟩ := q_cs hf; clear hf; have hz101 := (of_decide_eq_true hz101).symm; subst hz101; have hf := hfN; clear hfN
        refine lv_astore_n (lv' := [(1, .ref qD5), (0, .ref (adR 0))]) hx hb dX11_item_16 rfl hl (by decide) rfl (fun ls hl => ?_)
        refine lv_iconst (v := (-1)) hx hb dX11_item_17 (by decide) ?_
        refine lv_istore_n (lv' := [(2, .int (-1)), (1, .ref qD5), (0, .ref (adR 0))]) hx hb dX11_item_18 rfl hl (by decide) rfl (fun ls hl => ?_)
        refine lv_aload_n hx hb dX11_item_19 rfl (lv_at hl 1 rfl) ?_
        obtain ⟨r102, h103, hz104, hc105, hf⟩ := q_b3s hf
        have hp105 : List.Perm ([rW g adR (adX 10) (adN 0) R, xW g adX (adO 0) (adT 0) iX X, vW g adN N, gW L kd nu aa, dE g (qD5, bD5, nD5, fD5, hD5, hzD5)] : List va_W) ([dE g (qD5, bD5, nD5, fD5, hD5, hzD5)] ++ [rW g adR (adX 10) (adN 0) R, xW g adX (adO 0) (adT 0) iX X, vW g adN N, gW L kd nu aa]) := b_perm [4] [0, 1, 2, 3] 5 rfl rfl rfl rfl
        refine b_call0 ⟨rfl, rfl⟩ (va_runV (As := []) (rest := []) ⟨hx, hb, hml, hown, hts⟩ (m_J4_hashCode_b l D g H.size qD5 bD5 fu nD5 fD5 hD5 hzD5 r102 h103 hz104 hc105) (cwV 0 hts (lw_V q991 q992 q993 q84 q994) rfl rfl rfl (by decide +kernel) ⟨Nat.le_of_ble_eq_true rfl, Nat.le_of_ble_eq_true rfl⟩) (b_preV (pp := 4) (q := 0) hW hp105 rfl rfl rfl) rfl rfl hl.1 rfl (by exact lv_room (Nat.le_of_ble_eq_true rfl)) dX11_item_20 ⟨Nat.le_of_ble_eq_true rfl, Nat.le_of_ble_eq_true rfl⟩) hW hp105 (fun _ _ H locs hW => ?_)
        have hW : bW D g A s H locs [dE g (qD5, bD5, nD5, fD5, h103, hz104), rW g adR (adX 10) (adN 0) R, xW g adX (adO 0) (adT 0) iX X, vW g adN N, gW L kd nu aa] := hW
        by_cases c106 : r102 = (-1106172890)
        · have hf := q_t hf c106
          refine lv_lookup (off := 77) (tgt := 100) hx hb dX11_item_23 (by decide) (by rw [c106]; decide) (by decide) ?_
          refine lv_aload_n hx hb dX11_item_100 rfl (lv_at hl 1 rfl) ?_
          refine va_ldcS hx hb hown (b_kld hW (own := "EverybodyHasTheBook$Reader") (idx := 134) (tx := "letter") (i := 3) 3 rfl) dX11_item_101 ?_
          obtain ⟨r107, hc108, hf⟩ := q_b1s hf
          have hp108 : List.Perm ([dE g (qD5, bD5, nD5, fD5, h103, hz104), rW g adR (adX 10) (adN 0) R, xW g adX (adO 0) (adT 0) iX X, vW g adN N, gW L kd nu aa] : List va_W) ([dE g (qD5, bD5, nD5, fD5, h103, hz104)] ++ [rW g adR (adX 10) (adN 0) R, xW g adX (adO 0) (adT 0) iX X, vW g adN N, gW L kd nu aa]) := b_perm [0] [1, 2, 3, 4] 5 rfl rfl rfl rfl
          refine b_call0 ⟨rfl, rfl⟩ (va_runV (As := [.ref (g (100 + 3))]) (rest := []) ⟨hx, hb, hml, hown, hts⟩ (m_J4_equals_b l D g H.size qD5 bD5 fu nD5 fD5 h103 hz104 3 (by decide) r107 hc108) (cwV 1 hts (lw_V q1045 q1046 q1047 q84 q1048) rfl rfl rfl (by decide +kernel) ⟨Nat.le_of_ble_eq_true rfl, Nat.le_of_ble_eq_true rfl⟩) (b_preV (pp := 0) (q := 0) hW hp108 rfl rfl rfl) rfl rfl hl.1 rfl (by exact lv_room (Nat.le_of_ble_eq_true rfl)) dX11_item_103 ⟨Nat.le_of_ble_eq_true rfl, Nat.le_of_ble_eq_true rfl⟩) hW hp108 (fun _ _ H locs hW => ?_)
          have hW : bW D g A s H locs [dE g (qD5, bD5, nD5, fD5, h103, hz104), rW g adR (adX 10) (adN 0) R, xW g adX (adO 0) (adT 0) iX X, vW g adN N, gW L kd nu aa] := hW
          refine lv_if_eq (tgt := 139) hx hb dX11_item_106 (by decide) (fun c109 => ?_) (fun c109 => ?_)
          · have hf := q_t hf c109
            refine lv_iload_n hx hb dX11_item_139 rfl (lv_at hl 0 rfl) ?_
            refine lv_tableOut (tgt := 225) hx hb dX11_item_140 (by decide) (by decide) ?_
            refine lv_aload_n hx hb dX11_item_225 rfl (lv_at hl 2 rfl) ?_
            have hp110 : List.Perm ([dE g (qD5, bD5, nD5, fD5, h103, hz104), rW g adR (adX 10) (adN 0) R, xW g adX (adO 0) (adT 0) iX X, vW g adN N, gW L kd nu aa] : List va_W) ([rW g adR (adX 10) (adN 0) R] ++ [dE g (qD5, bD5, nD5, fD5, h103, hz104), xW g adX (adO 0) (adT 0) iX X, vW g adN N, gW L kd nu aa]) := b_perm [1] [0, 2, 3, 4] 5 rfl rfl rfl rfl
            refine b_call (va_runV (As := []) (rest := []) ⟨hx, hb, hml, hown, hts⟩ (m_X11_wrong l D g H.size adR (adX 10) (adN 0) R) (cwV 0 hts (lw_V q968 q970 qs10 q100 q971) rfl rfl rfl (by decide +kernel) ⟨Nat.le_of_ble_eq_true rfl, Nat.le_of_ble_eq_true rfl⟩) (b_preV (pp := 1) (q := 0) hW hp110 rfl rW_0 rfl) rfl rfl hl.1 rfl (lv_room (Nat.le_of_ble_eq_true rfl)) dX11_item_226 ⟨Nat.le_of_ble_eq_true rfl, Nat.le_of_ble_eq_true rfl⟩) hW hp110 (fun zF111 _ H locs hW => ?_)
            refine W.cs (cells' := 1) (slots' := 7) rfl rfl ?_
            have hW : bW D g A s H locs [rW g adR (adX 10) (adN 0) R, [(zF111, .inr (12, xRf (R.1 0 2)))], dE g (qD5, bD5, nD5, fD5, h103, hz104), xW g adX (adO 0) (adT 0) iX X, vW g adN N, gW L kd nu aa] := hW
            refine vx_athrow hx hb dX11_item_229 ?_
            obtain ⟨ce111, hcell, hcv, hcl⟩ := b_xcell hW (pp := 1) (q := 0) (ci := 12) rfl rfl rfl
            obtain ⟨D113, eD113, hf⟩ := q_ls hf
            have hW : bW D g A s H _ [rW g adR (adX 10) (adN 0) R, [(zF111, .inr (12, xRf (R.1 0 2)))], dW g D113, xW g adX (adO 0) (adT 0) iX X, vW g adN N, gW L kd nu aa] := (by subst eD113; exact hW)
            exact b_outX hE hlk hno (b_perms hW (b_ord [0, 3, 4, 5, 2, 1] 6 rfl rfl rfl)) (zF111, (R.1 0 2), R, N, L, kd, nu, aa, D113) rfl hcell hcv hcl ⟨rfl, rfl, hf⟩ (Nat.le_of_ble_eq_true rfl) (Nat.le_of_ble_eq_true rfl)
          · have hf := q_f hf c109
            refine lv_iconst (v := 2) hx hb dX11_item_109 (by decide) ?_
            refine lv_istore_n (lv' := [(2, .int 2), (1, .ref qD5), (0, .ref (adR 0))]) hx hb dX11_item_110 rfl hl (by decide) rfl (fun ls hl => ?_)
            refine lv_goto (tgt := 139) hx hb dX11_item_111 (by decide) ?_
            refine lv_iload_n hx hb dX11_item_139 rfl (lv_at hl 0 rfl) ?_
            refine lv_tableIn (off := 50) (tgt := 190) hx hb dX11_item_140 (by decide) (by decide) rfl (by decide) ?_
            refine lv_aload_n hx hb dX11_item_190 rfl (lv_at hl 2 rfl) ?_
            obtain ⟨D114, eD114, hf⟩ := q_ls hf
            have hW : bW D g A s H _ [dW g D114, rW g adR (adX 10) (adN 0) R, xW g adX (adO 0) (adT 0) iX X, vW g adN N, gW L kd nu aa] := (by subst eD114; exact hW)
            have hp115 : List.Perm ([dW g D114, rW g adR (adX 10) (adN 0) R, xW g adX (adO 0) (adT 0) iX X, vW g adN N, gW L kd nu aa] : List va_W) ([rW g adR (adX 10) (adN 0) R, xW g adX (adO 0) (adT 0) iX X, vW g adN N, dW g D114] ++ [gW L kd nu aa]) := b_perm [1, 2, 3, 0] [4] 5 rfl rfl rfl rfl
            refine b_callX (vx_runV (As := []) (rest := []) ⟨hx, hb, hml, hown, hts⟩ (m_X11_letter l D g H.size adR adX iX adN adT adO fu R X N D114 _ _ hf) (cwV 0 hts (lw_V q1081 q1083 qs16 q100 q1084) rfl rfl rfl (by decide +kernel) ⟨Nat.le_of_ble_eq_true rfl, Nat.le_of_ble_eq_true rfl⟩) (b_preV (pp := 1) (q := 0) hW hp115 rfl rW_0 rfl) rfl rfl hl.1 rfl (lv_room (Nat.le_of_ble_eq_true rfl)) dX11_item_191 ⟨Nat.le_of_ble_eq_true rfl, Nat.le_of_ble_eq_true rfl⟩) hW hp115 (fun E q115 ce115 u115 hok H locs hW hcell hcv hcl => ?_) (fun u115 hf H locs hW => ?_)
            · try dsimp only at hok hW
              obtain ⟨z9, by119, R116, N117, D118⟩ := u115
              obtain ⟨hE9, hq9, hf⟩ := hok; (try dsimp only at hq9 hf hW); subst hE9; subst hq9
              have hW : bW D g A s H locs [rW g adR (adX 10) (adN 0) R116, xW g adX (adO 0) (adT 0) iX X, vW g adN N117, dW g D118, [(q115, .inr (12, xRf by119))], gW L kd nu aa] := hW
              exact b_outX hE hlk hno (b_perms hW (b_ord [0, 1, 2, 5, 3, 4] 6 rfl rfl rfl)) (q115, by119, R116, N117, L, kd, nu, aa, D118) rfl hcell hcv hcl ⟨rfl, rfl, hf⟩ (Nat.le_of_ble_eq_true rfl) (Nat.le_of_ble_eq_true rfl)
            · try dsimp only at hf hW
              obtain ⟨R120, N121, D122⟩ := u115
              try dsimp only at hf hW ⊢
              refine W.cs (cells' := 19) (slots' := 613) rfl rfl ?_
              have hW : bW D g A s H locs [rW g adR (adX 10) (adN 0) R120, xW g adX (adO 0) (adT 0) iX X, vW g adN N121, dW g D122, gW L kd nu aa] := hW
              refine lv_goto (tgt := 230) hx hb dX11_item_194 (by decide) ?_
              refine b_toQ hE (fun Q hE => ?_)
              refine W.widen (k := 55) (n := 1825) (by decide) (by decide) ?_
              exact b_vret hx hb hr hlk hE (b_perms hW (b_ord [0, 1, 2, 4, 3] 5 rfl rfl rfl)) (R120, N121, L, kd, nu, aa, D122) rfl hf rfl dX11_item_230
        · have hf := q_f hf c106
          by_cases c123 : r102 = 96511
          · have hf := q_t hf c123
            refine lv_lookup (off := 91) (tgt := 114) hx hb dX11_item_23 (by decide) (by rw [c123]; decide) (by decide) ?_
            refine lv_aload_n hx hb dX11_item_114 rfl (lv_at hl 1 rfl) ?_
            refine va_ldcS hx hb hown (b_kld hW (own := "EverybodyHasTheBook$Reader") (idx := 136) (tx := "age") (i := 5) 4 rfl) dX11_item_115 ?_
            obtain ⟨r124, hc125, hf⟩ := q_b1s hf
            have hp125 : List.Perm ([dE g (qD5, bD5, nD5, fD5, h103, hz104), rW g adR (adX 10) (adN 0) R, xW g adX (adO 0) (adT 0) iX X, vW g adN N, gW L kd nu aa] : List va_W) ([dE g (qD5, bD5, nD5, fD5, h103, hz104)] ++ [rW g adR (adX 10) (adN 0) R, xW g adX (adO 0) (adT 0) iX X, vW g adN N, gW L kd nu aa]) := b_perm [0] [1, 2, 3, 4] 5 rfl rfl rfl rfl
            refine b_call0 ⟨rfl, rfl⟩ (va_runV (As := [.ref (g (100 + 5))]) (rest := []) ⟨hx, hb, hml, hown, hts⟩ (m_J4_equals_b l D g H.size qD5 bD5 fu nD5 fD5 h103 hz104 5 (by decide) r124 hc125) (cwV 1 hts (lw_V q1045 q1046 q1047 q84 q1048) rfl rfl rfl (by decide +kernel) ⟨Nat.le_of_ble_eq_true rfl, Nat.le_of_ble_eq_true rfl⟩) (b_preV (pp := 0) (q := 0) hW hp125 rfl rfl rfl) rfl rfl hl.1 rfl (by exact lv_room (Nat.le_of_ble_eq_true rfl)) dX11_item_117 ⟨Nat.le_of_ble_eq_true rfl, Nat.le_of_ble_eq_true rfl⟩) hW hp125 (fun _ _ H locs hW => ?_)
            have hW : bW D g A s H locs [dE g (qD5, bD5, nD5, fD5, h103, hz104), rW g adR (adX 10) (adN 0) R, xW g adX (adO 0) (adT 0) iX X, vW g adN N, gW L kd nu aa] := hW
            refine lv_if_eq (tgt := 139) hx hb dX11_item_120 (by decide) (fun c126 => ?_) (fun c126 => ?_)
            · have hf := q_t hf c126
              refine lv_iload_n hx hb dX11_item_139 rfl (lv_at hl 0 rfl) ?_
              refine lv_tableOut (tgt := 225) hx hb dX11_item_140 (by decide) (by decide) ?_
              refine lv_aload_n hx hb dX11_item_225 rfl (lv_at hl 2 rfl) ?_
              have hp127 : List.Perm ([dE g (qD5, bD5, nD5, fD5, h103, hz104), rW g adR (adX 10) (adN 0) R, xW g adX (adO 0) (adT 0) iX X, vW g adN N, gW L kd nu aa] : List va_W) ([rW g adR (adX 10) (adN 0) R] ++ [dE g (qD5, bD5, nD5, fD5, h103, hz104), xW g adX (adO 0) (adT 0) iX X, vW g adN N, gW L kd nu aa]) := b_perm [1] [0, 2, 3, 4] 5 rfl rfl rfl rfl
              refine b_call (va_runV (As := []) (rest := []) ⟨hx, hb, hml, hown, hts⟩ (m_X11_wrong l D g H.size adR (adX 10) (adN 0) R) (cwV 0 hts (lw_V q968 q970 qs10 q100 q971) rfl rfl rfl (by decide +kernel) ⟨Nat.le_of_ble_eq_true rfl, Nat.le_of_ble_eq_true rfl⟩) (b_preV (pp := 1) (q := 0) hW hp127 rfl rW_0 rfl) rfl rfl hl.1 rfl (lv_room (Nat.le_of_ble_eq_true rfl)) dX11_item_226 ⟨Nat.le_of_ble_eq_true rfl, Nat.le_of_ble_eq_true rfl⟩) hW hp127 (fun zF128 _ H locs hW => ?_)
              refine W.cs (cells' := 1) (slots' := 7) rfl rfl ?_
              have hW : bW D g A s H locs [rW g adR (adX 10) (adN 0) R, [(zF128, .inr (12, xRf (R.1 0 2)))], dE g (qD5, bD5, nD5, fD5, h103, hz104), xW g adX (adO 0) (adT 0) iX X, vW g adN N, gW L kd nu aa] := hW
              refine vx_athrow hx hb dX11_item_229 ?_
              obtain ⟨ce128, hcell, hcv, hcl⟩ := b_xcell hW (pp := 1) (q := 0) (ci := 12) rfl rfl rfl
              obtain ⟨D130, eD130, hf⟩ := q_ls hf
              have hW : bW D g A s H _ [rW g adR (adX 10) (adN 0) R, [(zF128, .inr (12, xRf (R.1 0 2)))], dW g D130, xW g adX (adO 0) (adT 0) iX X, vW g adN N, gW L kd nu aa] := (by subst eD130; exact hW)
              exact b_outX hE hlk hno (b_perms hW (b_ord [0, 3, 4, 5, 2, 1] 6 rfl rfl rfl)) (zF128, (R.1 0 2), R, N, L, kd, nu, aa, D130) rfl hcell hcv hcl ⟨rfl, rfl, hf⟩ (Nat.le_of_ble_eq_true rfl) (Nat.le_of_ble_eq_true rfl)
            · have hf := q_f hf c126
              refine lv_iconst (v := 3) hx hb dX11_item_123 (by decide) ?_
              refine lv_istore_n (lv' := [(2, .int 3), (1, .ref qD5), (0, .ref (adR 0))]) hx hb dX11_item_124 rfl hl (by decide) rfl (fun ls hl => ?_)
              refine lv_goto (tgt := 139) hx hb dX11_item_125 (by decide) ?_
              refine lv_iload_n hx hb dX11_item_139 rfl (lv_at hl 0 rfl) ?_
              refine lv_tableIn (off := 57) (tgt := 197) hx hb dX11_item_140 (by decide) (by decide) rfl (by decide) ?_
              refine lv_aload_n hx hb dX11_item_197 rfl (lv_at hl 2 rfl) ?_
              have hp131 : List.Perm ([dE g (qD5, bD5, nD5, fD5, h103, hz104), rW g adR (adX 10) (adN 0) R, xW g adX (adO 0) (adT 0) iX X, vW g adN N, gW L kd nu aa] : List va_W) ([rW g adR (adX 10) (adN 0) R, xW g adX (adO 0) (adT 0) iX X] ++ [dE g (qD5, bD5, nD5, fD5, h103, hz104), vW g adN N, gW L kd nu aa]) := b_perm [1, 2] [0, 3, 4] 5 rfl rfl rfl rfl
              refine b_call (va_runV (As := []) (rest := []) ⟨hx, hb, hml, hown, hts⟩ (m_X11_next l D g H.size adR adX adN adO adT iX fu R X _ hf) (cwV 0 hts (lw_V q769 q771 qs7 q100 q772) rfl rfl rfl (by decide +kernel) ⟨Nat.le_of_ble_eq_true rfl, Nat.le_of_ble_eq_true rfl⟩) (b_preV (pp := 1) (q := 0) hW hp131 rfl rW_0 rfl) rfl rfl hl.1 rfl (lv_room (Nat.le_of_ble_eq_true rfl)) dX11_item_198 ⟨Nat.le_of_ble_eq_true rfl, Nat.le_of_ble_eq_true rfl⟩) hW hp131 (fun u131 hf H locs hW => ?_)
              obtain ⟨R132, D133⟩ := u131; try dsimp only at hf hW
              refine W.cs (cells' := 6) (slots' := 202) rfl rfl ?_
              have hW : bW D g A s H locs [rW g adR (adX 10) (adN 0) R132, xW g adX (adO 0) (adT 0) iX X, dW g D133, dE g (qD5, bD5, nD5, fD5, h103, hz104), vW g adN N, gW L kd nu aa] := hW
              have hW := b_sub (Bs' := [rW g adR (adX 10) (adN 0) R132, xW g adX (adO 0) (adT 0) iX X, dW g D133, vW g adN N, gW L kd nu aa]) (wr := [dE g (qD5, bD5, nD5, fD5, h103, hz104)]) hW (b_ord [0, 1, 2, 4, 5, 3] 6 rfl rfl rfl)
              have hW : bW D g A s H locs [rW g adR (adX 10) (adN 0) R132, xW g adX (adO 0) (adT 0) iX X, dW g D133, vW g adN N, gW L kd nu aa] := hW
              refine lv_aload_n hx hb dX11_item_201 rfl (lv_at hl 2 rfl) ?_
              refine b_get hx hb hts in_X11 hown hW 0 0 11 2 rfl rW_0 rfl (by decide) ⟨rfl, rfl, rfl⟩ (hts _ q744) rW_g2 dX11_item_202 ?_
              refine lv_aload_n hx hb dX11_item_205 rfl (lv_at hl 2 rfl) ?_
              refine lv_iconst (v := 0) hx hb dX11_item_206 (by decide) ?_
              refine lv_bipush (v := 99) hx hb dX11_item_207 (by decide) ?_
              have hp134 : List.Perm ([rW g adR (adX 10) (adN 0) R132, xW g adX (adO 0) (adT 0) iX X, dW g D133, vW g adN N, gW L kd nu aa] : List va_W) ([rW g adR (adX 10) (adN 0) R132, xW g adX (adO 0) (adT 0) iX X, dW g D133] ++ [vW g adN N, gW L kd nu aa]) := b_perm [0, 1, 2] [3, 4] 5 rfl rfl rfl rfl
              refine b_callX (vx_runV (As := [.int 0, .int 99]) (rest := [.ref (adN 0)]) ⟨hx, hb, hml, hown, hts⟩ (m_X11_number l D g H.size adR adX iX adN adT adO fu R132 X D133 0 99 _ _ hf) (cwV 2 hts (lw_V q1065 q1067 qs13 q100 q1068) rfl rfl rfl (by decide +kernel) ⟨Nat.le_of_ble_eq_true rfl, Nat.le_of_ble_eq_true rfl⟩) (b_preV (pp := 0) (q := 0) hW hp134 rfl rW_0 rfl) rfl rfl hl.1 rfl (lv_room (Nat.le_of_ble_eq_true rfl)) dX11_item_209 ⟨Nat.le_of_ble_eq_true rfl, Nat.le_of_ble_eq_true rfl⟩) hW hp134 (fun E q134 ce134 u134 hok H locs hW hcell hcv hcl => ?_) (fun u134 hf H locs hW => ?_)
              · try dsimp only at hok hW
                obtain ⟨z9, by137, R135, D136⟩ := u134
                obtain ⟨hE9, hq9, hf⟩ := hok; (try dsimp only at hq9 hf hW); subst hE9; subst hq9
                have hW : bW D g A s H locs [rW g adR (adX 10) (adN 0) R135, xW g adX (adO 0) (adT 0) iX X, dW g D136, [(q134, .inr (12, xRf by137))], vW g adN N, gW L kd nu aa] := hW
                exact b_outX hE hlk hno (b_perms hW (b_ord [0, 1, 4, 5, 2, 3] 6 rfl rfl rfl)) (q134, by137, R135, N, L, kd, nu, aa, D136) rfl hcell hcv hcl ⟨rfl, rfl, hf⟩ (Nat.le_of_ble_eq_true rfl) (Nat.le_of_ble_eq_true rfl)
              · try dsimp only at hf hW
                obtain ⟨r138, R139, D140⟩ := u134
                try dsimp only at hf hW ⊢
                refine W.cs (cells' := 12) (slots' := 404) rfl rfl ?_
                have hW : bW D g A s H locs [rW g adR (adX 10) (adN 0) R139, xW g adX (adO 0) (adT 0) iX X, dW g D140, vW g adN N, gW L kd nu aa] := hW
                obtain ⟨N141, eN141, hf⟩ := q_ls hf
                refine b_put hx hb hts in_X1 tyX1 tyX1_ok nmX1 hown hW 3 0 1 14 rfl vW_0 (vW_p14 eN141) rfl rfl (by decide) ⟨rfl, rfl, rfl⟩ (hts _ q173) rfl (ty := .int) rfl rfl rfl (by rw [vW_l]; decide) dX11_item_212 (fun H locs hW => ?_)
                have hW : bW D g A s H locs [rW g adR (adX 10) (adN 0) R139, xW g adX (adO 0) (adT 0) iX X, dW g D140, vW g adN N141, gW L kd nu aa] := hW
                refine lv_goto (tgt := 230) hx hb dX11_item_215 (by decide) ?_
                refine b_toQ hE (fun Q hE => ?_)
                refine W.widen (k := 55) (n := 1825) (by decide) (by decide) ?_
                exact b_vret hx hb hr hlk hE (b_perms hW (b_ord [0, 1, 3, 4, 2] 5 rfl rfl rfl)) (R139, N141, L, kd, nu, aa, D140) rfl hf rfl dX11_item_230
          · have hf := q_f hf c123
            by_cases c142 : r102 = 104425
            · have hf := q_t hf c142
              refine lv_lookup (off := 49) (tgt := 72) hx hb dX11_item_23 (by decide) (by rw [c142]; decide) (by decide) ?_
              refine lv_aload_n hx hb dX11_item_72 rfl (lv_at hl 1 rfl) ?_
              refine va_ldcS hx hb hown (b_kld hW (own := "EverybodyHasTheBook$Reader") (idx := 130) (tx := "inn") (i := 1) 1 rfl) dX11_item_73 ?_
              obtain ⟨r143, hc144, hf⟩ := q_b1s hf
              have hp144 : List.Perm ([dE g (qD5, bD5, nD5, fD5, h103, hz104), rW g adR (adX 10) (adN 0) R, xW g adX (adO 0) (adT 0) iX X, vW g adN N, gW L kd nu aa] : List va_W) ([dE g (qD5, bD5, nD5, fD5, h103, hz104)] ++ [rW g adR (adX 10) (adN 0) R, xW g adX (adO 0) (adT 0) iX X, vW g adN N, gW L kd nu aa]) := b_perm [0] [1, 2, 3, 4] 5 rfl rfl rfl rfl
              refine b_call0 ⟨rfl, rfl⟩ (va_runV (As := [.ref (g (100 + 1))]) (rest := []) ⟨hx, hb, hml, hown, hts⟩ (m_J4_equals_b l D g H.size qD5 bD5 fu nD5 fD5 h103 hz104 1 (by decide) r143 hc144) (cwV 1 hts (lw_V q1045 q1046 q1047 q84 q1048) rfl rfl rfl (by decide +kernel) ⟨Nat.le_of_ble_eq_true rfl, Nat.le_of_ble_eq_true rfl⟩) (b_preV (pp := 0) (q := 0) hW hp144 rfl rfl rfl) rfl rfl hl.1 rfl (by exact lv_room (Nat.le_of_ble_eq_true rfl)) dX11_item_75 ⟨Nat.le_of_ble_eq_true rfl, Nat.le_of_ble_eq_true rfl⟩) hW hp144 (fun _ _ H locs hW => ?_)
              have hW : bW D g A s H locs [dE g (qD5, bD5, nD5, fD5, h103, hz104), rW g adR (adX 10) (adN 0) R, xW g adX (adO 0) (adT 0) iX X, vW g adN N, gW L kd nu aa] := hW
              refine lv_if_eq (tgt := 139) hx hb dX11_item_78 (by decide) (fun c145 => ?_) (fun c145 => ?_)
              · have hf := q_t hf c145
                refine lv_iload_n hx hb dX11_item_139 rfl (lv_at hl 0 rfl) ?_
                refine lv_tableOut (tgt := 225) hx hb dX11_item_140 (by decide) (by decide) ?_
                refine lv_aload_n hx hb dX11_item_225 rfl (lv_at hl 2 rfl) ?_
                have hp146 : List.Perm ([dE g (qD5, bD5, nD5, fD5, h103, hz104), rW g adR (adX 10) (adN 0) R, xW g adX (adO 0) (adT 0) iX X, vW g adN N, gW L kd nu aa] : List va_W) ([rW g adR (adX 10) (adN 0) R] ++ [dE g (qD5, bD5, nD5, fD5, h103, hz104), xW g adX (adO 0) (adT 0) iX X, vW g adN N, gW L kd nu aa]) := b_perm [1] [0, 2, 3, 4] 5 rfl rfl rfl rfl
                refine b_call (va_runV (As := []) (rest := []) ⟨hx, hb, hml, hown, hts⟩ (m_X11_wrong l D g H.size adR (adX 10) (adN 0) R) (cwV 0 hts (lw_V q968 q970 qs10 q100 q971) rfl rfl rfl (by decide +kernel) ⟨Nat.le_of_ble_eq_true rfl, Nat.le_of_ble_eq_true rfl⟩) (b_preV (pp := 1) (q := 0) hW hp146 rfl rW_0 rfl) rfl rfl hl.1 rfl (lv_room (Nat.le_of_ble_eq_true rfl)) dX11_item_226 ⟨Nat.le_of_ble_eq_true rfl, Nat.le_of_ble_eq_true rfl⟩) hW hp146 (fun zF147 _ H locs hW => ?_)
                refine W.cs (cells' := 1) (slots' := 7) rfl rfl ?_
                have hW : bW D g A s H locs [rW g adR (adX 10) (adN 0) R, [(zF147, .inr (12, xRf (R.1 0 2)))], dE g (qD5, bD5, nD5, fD5, h103, hz104), xW g adX (adO 0) (adT 0) iX X, vW g adN N, gW L kd nu aa] := hW
                refine vx_athrow hx hb dX11_item_229 ?_
                obtain ⟨ce147, hcell, hcv, hcl⟩ := b_xcell hW (pp := 1) (q := 0) (ci := 12) rfl rfl rfl
                obtain ⟨D149, eD149, hf⟩ := q_ls hf
                have hW : bW D g A s H _ [rW g adR (adX 10) (adN 0) R, [(zF147, .inr (12, xRf (R.1 0 2)))], dW g D149, xW g adX (adO 0) (adT 0) iX X, vW g adN N, gW L kd nu aa] := (by subst eD149; exact hW)
                exact b_outX hE hlk hno (b_perms hW (b_ord [0, 3, 4, 5, 2, 1] 6 rfl rfl rfl)) (zF147, (R.1 0 2), R, N, L, kd, nu, aa, D149) rfl hcell hcv hcl ⟨rfl, rfl, hf⟩ (Nat.le_of_ble_eq_true rfl) (Nat.le_of_ble_eq_true rfl)
              · have hf := q_f hf c145
                refine lv_iconst (v := 0) hx hb dX11_item_81 (by decide) ?_
                refine lv_istore_n (lv' := [(2, .int 0), (1, .ref qD5), (0, .ref (adR 0))]) hx hb dX11_item_82 rfl hl (by decide) rfl (fun ls hl => ?_)
                refine lv_goto (tgt := 139) hx hb dX11_item_83 (by decide) ?_
                refine lv_iload_n hx hb dX11_item_139 rfl (lv_at hl 0 rfl) ?_
                refine lv_tableIn (off := 36) (tgt := 176) hx hb dX11_item_140 (by decide) (by decide) rfl (by decide) ?_
                refine lv_aload_n hx hb dX11_item_176 rfl (lv_at hl 2 rfl) ?_
                obtain ⟨D150, eD150, hf⟩ := q_ls hf
                have hW : bW D g A s H _ [dW g D150, rW g adR (adX 10) (adN 0) R, xW g adX (adO 0) (adT 0) iX X, vW g adN N, gW L kd nu aa] := (by subst eD150; exact hW)
                have hp151 : List.Perm ([dW g D150, rW g adR (adX 10) (adN 0) R, xW g adX (adO 0) (adT 0) iX X, vW g adN N, gW L kd nu aa] : List va_W) ([rW g adR (adX 10) (adN 0) R, xW g adX (adO 0) (adT 0) iX X, vW g adN N, dW g D150] ++ [gW L kd nu aa]) := b_perm [1, 2, 3, 0] [4] 5 rfl rfl rfl rfl
                refine b_callX (vx_runV (As := []) (rest := []) ⟨hx, hb, hml, hown, hts⟩ (m_X11_inn l D g H.size adR adX iX adN adT adO fu R X N D150 _ _ hf) (cwV 0 hts (lw_V q1057 q1059 qs11 q100 q1060) rfl rfl rfl (by decide +kernel) ⟨Nat.le_of_ble_eq_true rfl, Nat.le_of_ble_eq_true rfl⟩) (b_preV (pp := 1) (q := 0) hW hp151 rfl rW_0 rfl) rfl rfl hl.1 rfl (lv_room (Nat.le_of_ble_eq_true rfl)) dX11_item_177 ⟨Nat.le_of_ble_eq_true rfl, Nat.le_of_ble_eq_true rfl⟩) hW hp151 (fun E q151 ce151 u151 hok H locs hW hcell hcv hcl => ?_) (fun u151 hf H locs hW => ?_)
                · try dsimp only at hok hW
                  obtain ⟨z9, by155, R152, N153, D154⟩ := u151
                  obtain ⟨hE9, hq9, hf⟩ := hok; (try dsimp only at hq9 hf hW); subst hE9; subst hq9
                  have hW : bW D g A s H locs [rW g adR (adX 10) (adN 0) R152, xW g adX (adO 0) (adT 0) iX X, vW g adN N153, dW g D154, [(q151, .inr (12, xRf by155))], gW L kd nu aa] := hW
                  exact b_outX hE hlk hno (b_perms hW (b_ord [0, 1, 2, 5, 3, 4] 6 rfl rfl rfl)) (q151, by155, R152, N153, L, kd, nu, aa, D154) rfl hcell hcv hcl ⟨rfl, rfl, hf⟩ (Nat.le_of_ble_eq_true rfl) (Nat.le_of_ble_eq_true rfl)
                · try dsimp only at hf hW
                  obtain ⟨R156, N157, D158⟩ := u151
                  try dsimp only at hf hW ⊢
                  refine W.cs (cells' := 36) (slots' := 1212) rfl rfl ?_
                  have hW : bW D g A s H locs [rW g adR (adX 10) (adN 0) R156, xW g adX (adO 0) (adT 0) iX X, vW g adN N157, dW g D158, gW L kd nu aa] := hW
                  refine lv_goto (tgt := 230) hx hb dX11_item_180 (by decide) ?_
                  refine b_toQ hE (fun Q hE => ?_)
                  refine W.widen (k := 55) (n := 1825) (by decide) (by decide) ?_
                  exact b_vret hx hb hr hlk hE (b_perms hW (b_ord [0, 1, 2, 4, 3] 5 rfl rfl rfl)) (R156, N157, L, kd, nu, aa, D158) rfl hf rfl dX11_item_230
            · have hf := q_f hf c142
              by_cases c159 : r102 = 3178389
              · have hf := q_t hf c159
                refine lv_lookup (off := 63) (tgt := 86) hx hb dX11_item_23 (by decide) (by rw [c159]; decide) (by decide) ?_
                refine lv_aload_n hx hb dX11_item_86 rfl (lv_at hl 1 rfl) ?_
                refine va_ldcS hx hb hown (b_kld hW (own := "EverybodyHasTheBook$Reader") (idx := 132) (tx := "goer") (i := 2) 2 rfl) dX11_item_87 ?_
                obtain ⟨r160, hc161, hf⟩ := q_b1s hf
                have hp161 : List.Perm ([dE g (qD5, bD5, nD5, fD5, h103, hz104), rW g adR (adX 10) (adN 0) R, xW g adX (adO 0) (adT 0) iX X, vW g adN N, gW L kd nu aa] : List va_W) ([dE g (qD5, bD5, nD5, fD5, h103, hz104)] ++ [rW g adR (adX 10) (adN 0) R, xW g adX (adO 0) (adT 0) iX X, vW g adN N, gW L kd nu aa]) := b_perm [0] [1, 2, 3, 4] 5 rfl rfl rfl rfl
                refine b_call0 ⟨rfl, rfl⟩ (va_runV (As := [.ref (g (100 + 2))]) (rest := []) ⟨hx, hb, hml, hown, hts⟩ (m_J4_equals_b l D g H.size qD5 bD5 fu nD5 fD5 h103 hz104 2 (by decide) r160 hc161) (cwV 1 hts (lw_V q1045 q1046 q1047 q84 q1048) rfl rfl rfl (by decide +kernel) ⟨Nat.le_of_ble_eq_true rfl, Nat.le_of_ble_eq_true rfl⟩) (b_preV (pp := 0) (q := 0) hW hp161 rfl rfl rfl) rfl rfl hl.1 rfl (by exact lv_room (Nat.le_of_ble_eq_true rfl)) dX11_item_89 ⟨Nat.le_of_ble_eq_true rfl, Nat.le_of_ble_eq_true rfl⟩) hW hp161 (fun _ _ H locs hW => ?_)
                have hW : bW D g A s H locs [dE g (qD5, bD5, nD5, fD5, h103, hz104), rW g adR (adX 10) (adN 0) R, xW g adX (adO 0) (adT 0) iX X, vW g adN N, gW L kd nu aa] := hW
                refine lv_if_eq (tgt := 139) hx hb dX11_item_92 (by decide) (fun c162 => ?_) (fun c162 => ?_)
                · have hf := q_t hf c162
                  refine lv_iload_n hx hb dX11_item_139 rfl (lv_at hl 0 rfl) ?_
                  refine lv_tableOut (tgt := 225) hx hb dX11_item_140 (by decide) (by decide) ?_
                  refine lv_aload_n hx hb dX11_item_225 rfl (lv_at hl 2 rfl) ?_
                  have hp163 : List.Perm ([dE g (qD5, bD5, nD5, fD5, h103, hz104), rW g adR (adX 10) (adN 0) R, xW g adX (adO 0) (adT 0) iX X, vW g adN N, gW L kd nu aa] : List va_W) ([rW g adR (adX 10) (adN 0) R] ++ [dE g (qD5, bD5, nD5, fD5, h103, hz104), xW g adX (adO 0) (adT 0) iX X, vW g adN N, gW L kd nu aa]) := b_perm [1] [0, 2, 3, 4] 5 rfl rfl rfl rfl
                  refine b_call (va_runV (As := []) (rest := []) ⟨hx, hb, hml, hown, hts⟩ (m_X11_wrong l D g H.size adR (adX 10) (adN 0) R) (cwV 0 hts (lw_V q968 q970 qs10 q100 q971) rfl rfl rfl (by decide +kernel) ⟨Nat.le_of_ble_eq_true rfl, Nat.le_of_ble_eq_true rfl⟩) (b_preV (pp := 1) (q := 0) hW hp163 rfl rW_0 rfl) rfl rfl hl.1 rfl (lv_room (Nat.le_of_ble_eq_true rfl)) dX11_item_226 ⟨Nat.le_of_ble_eq_true rfl, Nat.le_of_ble_eq_true rfl⟩) hW hp163 (fun zF164 _ H locs hW => ?_)
                  refine W.cs (cells' := 1) (slots' := 7) rfl rfl ?_
                  have hW : bW D g A s H locs [rW g adR (adX 10) (adN 0) R, [(zF164, .inr (12, xRf (R.1 0 2)))], dE g (qD5, bD5, nD5, fD5, h103, hz104), xW g adX (adO 0) (adT 0) iX X, vW g adN N, gW L kd nu aa] := hW
                  refine vx_athrow hx hb dX11_item_229 ?_
                  obtain ⟨ce164, hcell, hcv, hcl⟩ := b_xcell hW (pp := 1) (q := 0) (ci := 12) rfl rfl rfl
                  obtain ⟨D166, eD166, hf⟩ := q_ls hf
                  have hW : bW D g A s H _ [rW g adR (adX 10) (adN 0) R, [(zF164, .inr (12, xRf (R.1 0 2)))], dW g D166, xW g adX (adO 0) (adT 0) iX X, vW g adN N, gW L kd nu aa] := (by subst eD166; exact hW)
                  exact b_outX hE hlk hno (b_perms hW (b_ord [0, 3, 4, 5, 2, 1] 6 rfl rfl rfl)) (zF164, (R.1 0 2), R, N, L, kd, nu, aa, D166) rfl hcell hcv hcl ⟨rfl, rfl, hf⟩ (Nat.le_of_ble_eq_true rfl) (Nat.le_of_ble_eq_true rfl)
                · have hf := q_f hf c162
                  refine lv_iconst (v := 1) hx hb dX11_item_95 (by decide) ?_
                  refine lv_istore_n (lv' := [(2, .int 1), (1, .ref qD5), (0, .ref (adR 0))]) hx hb dX11_item_96 rfl hl (by decide) rfl (fun ls hl => ?_)
                  refine lv_goto (tgt := 139) hx hb dX11_item_97 (by decide) ?_
                  refine lv_iload_n hx hb dX11_item_139 rfl (lv_at hl 0 rfl) ?_
                  refine lv_tableIn (off := 43) (tgt := 183) hx hb dX11_item_140 (by decide) (by decide) rfl (by decide) ?_
                  refine lv_aload_n hx hb dX11_item_183 rfl (lv_at hl 2 rfl) ?_
                  obtain ⟨D167, eD167, hf⟩ := q_ls hf
                  have hW : bW D g A s H _ [dW g D167, rW g adR (adX 10) (adN 0) R, xW g adX (adO 0) (adT 0) iX X, vW g adN N, gW L kd nu aa] := (by subst eD167; exact hW)
                  have hp168 : List.Perm ([dW g D167, rW g adR (adX 10) (adN 0) R, xW g adX (adO 0) (adT 0) iX X, vW g adN N, gW L kd nu aa] : List va_W) ([rW g adR (adX 10) (adN 0) R, xW g adX (adO 0) (adT 0) iX X, vW g adN N, gW L kd nu aa, dW g D167] ++ []) := b_perm [1, 2, 3, 4, 0] [] 5 rfl rfl rfl rfl
                  refine b_callX (vx_runV (As := []) (rest := []) ⟨hx, hb, hml, hown, hts⟩ (m_X11_goer l D g H.size adR adX iX adN adT adO fu R X N L kd nu aa D167 _ _ hf) (cwV 0 hts (lw_V q1075 q1077 qs15 q100 q1078) rfl rfl rfl (by decide +kernel) ⟨Nat.le_of_ble_eq_true rfl, Nat.le_of_ble_eq_true rfl⟩) (b_preV (pp := 1) (q := 0) hW hp168 rfl rW_0 rfl) rfl rfl hl.1 rfl (lv_room (Nat.le_of_ble_eq_true rfl)) dX11_item_184 ⟨Nat.le_of_ble_eq_true rfl, Nat.le_of_ble_eq_true rfl⟩) hW hp168 (fun E q168 ce168 u168 hok H locs hW hcell hcv hcl => ?_) (fun u168 hf H locs hW => ?_)
                  · try dsimp only at hok hW
                    obtain ⟨z9, by176, R169, N170, L171, kd172, nu173, aa174, D175⟩ := u168
                    obtain ⟨hE9, hq9, hf⟩ := hok; (try dsimp only at hq9 hf hW); subst hE9; subst hq9
                    have hW : bW D g A s H locs [rW g adR (adX 10) (adN 0) R169, xW g adX (adO 0) (adT 0) iX X, vW g adN N170, gW L171 kd172 nu173 aa174, dW g D175, [(q168, .inr (12, xRf by176))]] := hW
                    exact b_outX hE hlk hno hW (q168, by176, R169, N170, L171, kd172, nu173, aa174, D175) rfl hcell hcv hcl ⟨rfl, rfl, hf⟩ (Nat.le_of_ble_eq_true rfl) (Nat.le_of_ble_eq_true rfl)
                  · try dsimp only at hf hW
                    obtain ⟨R177, N178, L179, kd180, nu181, aa182, D183⟩ := u168
                    try dsimp only at hf hW ⊢
                    refine W.cs (cells' := 25) (slots' := 810) rfl rfl ?_
                    have hW : bW D g A s H locs [rW g adR (adX 10) (adN 0) R177, xW g adX (adO 0) (adT 0) iX X, vW g adN N178, gW L179 kd180 nu181 aa182, dW g D183] := hW
                    refine lv_goto (tgt := 230) hx hb dX11_item_187 (by decide) ?_
                    refine b_toQ hE (fun Q hE => ?_)
                    refine W.widen (k := 55) (n := 1825) (by decide) (by decide) ?_
                    exact b_vret hx hb hr hlk hE hW (R177, N178, L179, kd180, nu181, aa182, D183) rfl hf rfl dX11_item_230
              · have hf := q_f hf c159
                by_cases c184 : r102 = 113399775
                · have hf := q_t hf c184
                  refine lv_lookup (off := 105) (tgt := 128) hx hb dX11_item_23 (by decide) (by rw [c184]; decide) (by decide) ?_
                  refine lv_aload_n hx hb dX11_item_128 rfl (lv_at hl 1 rfl) ?_
                  refine va_ldcS hx hb hown (b_kld hW (own := "EverybodyHasTheBook$Reader") (idx := 138) (tx := "write") (i := 4) 5 rfl) dX11_item_129 ?_
                  obtain ⟨r185, hc186, hf⟩ := q_b1s hf
                  have hp186 : List.Perm ([dE g (qD5, bD5, nD5, fD5, h103, hz104), rW g adR (adX 10) (adN 0) R, xW g adX (adO 0) (adT 0) iX X, vW g adN N, gW L kd nu aa] : List va_W) ([dE g (qD5, bD5, nD5, fD5, h103, hz104)] ++ [rW g adR (adX 10) (adN 0) R, xW g adX (adO 0) (adT 0) iX X, vW g adN N, gW L kd nu aa]) := b_perm [0] [1, 2, 3, 4] 5 rfl rfl rfl rfl
                  refine b_call0 ⟨rfl, rfl⟩ (va_runV (As := [.ref (g (100 + 4))]) (rest := []) ⟨hx, hb, hml, hown, hts⟩ (m_J4_equals_b l D g H.size qD5 bD5 fu nD5 fD5 h103 hz104 4 (by decide) r185 hc186) (cwV 1 hts (lw_V q1045 q1046 q1047 q84 q1048) rfl rfl rfl (by decide +kernel) ⟨Nat.le_of_ble_eq_true rfl, Nat.le_of_ble_eq_true rfl⟩) (b_preV (pp := 0) (q := 0) hW hp186 rfl rfl rfl) rfl rfl hl.1 rfl (by exact lv_room (Nat.le_of_ble_eq_true rfl)) dX11_item_131 ⟨Nat.le_of_ble_eq_true rfl, Nat.le_of_ble_eq_true rfl⟩) hW hp186 (fun _ _ H locs hW => ?_)
                  have hW : bW D g A s H locs [dE g (qD5, bD5, nD5, fD5, h103, hz104), rW g adR (adX 10) (adN 0) R, xW g adX (adO 0) (adT 0) iX X, vW g adN N, gW L kd nu aa] := hW
                  refine lv_if_eq (tgt := 139) hx hb dX11_item_134 (by decide) (fun c187 => ?_) (fun c187 => ?_)
                  · have hf := q_t hf c187
                    refine lv_iload_n hx hb dX11_item_139 rfl (lv_at hl 0 rfl) ?_
                    refine lv_tableOut (tgt := 225) hx hb dX11_item_140 (by decide) (by decide) ?_
                    refine lv_aload_n hx hb dX11_item_225 rfl (lv_at hl 2 rfl) ?_
                    have hp188 : List.Perm ([dE g (qD5, bD5, nD5, fD5, h103, hz104), rW g adR (adX 10) (adN 0) R, xW g adX (adO 0) (adT 0) iX X, vW g adN N, gW L kd nu aa] : List va_W) ([rW g adR (adX 10) (adN 0) R] ++ [dE g (qD5, bD5, nD5, fD5, h103, hz104), xW g adX (adO 0) (adT 0) iX X, vW g adN N, gW L kd nu aa]) := b_perm [1] [0, 2, 3, 4] 5 rfl rfl rfl rfl
                    refine b_call (va_runV (As := []) (rest := []) ⟨hx, hb, hml, hown, hts⟩ (m_X11_wrong l D g H.size adR (adX 10) (adN 0) R) (cwV 0 hts (lw_V q968 q970 qs10 q100 q971) rfl rfl rfl (by decide +kernel) ⟨Nat.le_of_ble_eq_true rfl, Nat.le_of_ble_eq_true rfl⟩) (b_preV (pp := 1) (q := 0) hW hp188 rfl rW_0 rfl) rfl rfl hl.1 rfl (lv_room (Nat.le_of_ble_eq_true rfl)) dX11_item_226 ⟨Nat.le_of_ble_eq_true rfl, Nat.le_of_ble_eq_true rfl⟩) hW hp188 (fun zF189 _ H locs hW => ?_)
                    refine W.cs (cells' := 1) (slots' := 7) rfl rfl ?_
                    have hW : bW D g A s H locs [rW g adR (adX 10) (adN 0) R, [(zF189, .inr (12, xRf (R.1 0 2)))], dE g (qD5, bD5, nD5, fD5, h103, hz104), xW g adX (adO 0) (adT 0) iX X, vW g adN N, gW L kd nu aa] := hW
                    refine vx_athrow hx hb dX11_item_229 ?_
                    obtain ⟨ce189, hcell, hcv, hcl⟩ := b_xcell hW (pp := 1) (q := 0) (ci := 12) rfl rfl rfl
                    obtain ⟨D191, eD191, hf⟩ := q_ls hf
                    have hW : bW D g A s H _ [rW g adR (adX 10) (adN 0) R, [(zF189, .inr (12, xRf (R.1 0 2)))], dW g D191, xW g adX (adO 0) (adT 0) iX X, vW g adN N, gW L kd nu aa] := (by subst eD191; exact hW)
                    exact b_outX hE hlk hno (b_perms hW (b_ord [0, 3, 4, 5, 2, 1] 6 rfl rfl rfl)) (zF189, (R.1 0 2), R, N, L, kd, nu, aa, D191) rfl hcell hcv hcl ⟨rfl, rfl, hf⟩ (Nat.le_of_ble_eq_true rfl) (Nat.le_of_ble_eq_true rfl)
                  · have hf := q_f hf c187
                    refine lv_iconst (v := 4) hx hb dX11_item_137 (by decide) ?_
                    refine lv_istore_n (lv' := [(2, .int 4), (1, .ref qD5), (0, .ref (adR 0))]) hx hb dX11_item_138 rfl hl (by decide) rfl (fun ls hl => ?_)
                    refine lv_iload_n hx hb dX11_item_139 rfl (lv_at hl 0 rfl) ?_
                    refine lv_tableIn (off := 78) (tgt := 218) hx hb dX11_item_140 (by decide) (by decide) rfl (by decide) ?_
                    refine lv_aload_n hx hb dX11_item_218 rfl (lv_at hl 2 rfl) ?_
                    obtain ⟨D192, eD192, hf⟩ := q_ls hf
                    have hW : bW D g A s H _ [dW g D192, rW g adR (adX 10) (adN 0) R, xW g adX (adO 0) (adT 0) iX X, vW g adN N, gW L kd nu aa] := (by subst eD192; exact hW)
                    have hp193 : List.Perm ([dW g D192, rW g adR (adX 10) (adN 0) R, xW g adX (adO 0) (adT 0) iX X, vW g adN N, gW L kd nu aa] : List va_W) ([rW g adR (adX 10) (adN 0) R, xW g adX (adO 0) (adT 0) iX X, vW g adN N, gW L kd nu aa, dW g D192] ++ []) := b_perm [1, 2, 3, 4, 0] [] 5 rfl rfl rfl rfl
                    refine b_callX (vx_runV (As := []) (rest := []) ⟨hx, hb, hml, hown, hts⟩ (m_X11_write l D g H.size adR adX iX adN adT adO fu R X N L kd nu aa D192 _ _ hf) (cwV 0 hts (lw_V q1087 q1089 qs17 q100 q1090) rfl rfl rfl (by decide +kernel) ⟨Nat.le_of_ble_eq_true rfl, Nat.le_of_ble_eq_true rfl⟩) (b_preV (pp := 1) (q := 0) hW hp193 rfl rW_0 rfl) rfl rfl hl.1 rfl (lv_room (Nat.le_of_ble_eq_true rfl)) dX11_item_219 ⟨Nat.le_of_ble_eq_true rfl, Nat.le_of_ble_eq_true rfl⟩) hW hp193 (fun E q193 ce193 u193 hok H locs hW hcell hcv hcl => ?_) (fun u193 hf H locs hW => ?_)
                    · try dsimp only at hok hW
                      obtain ⟨z9, by197, R194, N195, D196⟩ := u193
                      obtain ⟨hE9, hq9, hf⟩ := hok; (try dsimp only at hq9 hf hW); subst hE9; subst hq9
                      have hW : bW D g A s H locs [rW g adR (adX 10) (adN 0) R194, xW g adX (adO 0) (adT 0) iX X, vW g adN N195, gW L kd nu aa, dW g D196, [(q193, .inr (12, xRf by197))]] := hW
                      exact b_outX hE hlk hno hW (q193, by197, R194, N195, L, kd, nu, aa, D196) rfl hcell hcv hcl ⟨rfl, rfl, hf⟩ (Nat.le_of_ble_eq_true rfl) (Nat.le_of_ble_eq_true rfl)
                    · try dsimp only at hf hW
                      obtain ⟨R198, N199, D200⟩ := u193
                      try dsimp only at hf hW ⊢
                      refine W.cs (cells' := 55) (slots' := 1825) rfl rfl ?_
                      have hW : bW D g A s H locs [rW g adR (adX 10) (adN 0) R198, xW g adX (adO 0) (adT 0) iX X, vW g adN N199, gW L kd nu aa, dW g D200] := hW
                      refine lv_goto (tgt := 230) hx hb dX11_item_222 (by decide) ?_
                      refine b_toQ hE (fun Q hE => ?_)
                      refine W.widen (k := 55) (n := 1825) (by decide) (by decide) ?_
                      exact b_vret hx hb hr hlk hE hW (R198, N199, L, kd, nu, aa, D200) rfl hf rfl dX11_item_230
                · have hf := q_f hf c184
                  refine lv_lookup (off := 116) (tgt := 139) hx hb dX11_item_23 (by decide) (Eq.trans (lv_osw c106 rfl) (Eq.trans (lv_osw c123 rfl) (Eq.trans (lv_osw c142 rfl) (Eq.trans (lv_osw c159 rfl) (Eq.trans (lv_osw c184 rfl) rfl))))) (by decide) ?_
                  refine lv_iload_n hx hb dX11_item_139 rfl (lv_at hl 0 rfl) ?_
                  refine lv_tableOut (tgt := 225) hx hb dX11_item_140 (by decide) (by decide) ?_
                  refine lv_aload_n hx hb dX11_item_225 rfl (lv_at hl 2 rfl) ?_
                  have hp201 : List.Perm ([dE g (qD5, bD5, nD5, fD5, h103, hz104), rW g adR (adX 10) (adN 0) R, xW g adX (adO 0) (adT 0) iX X, vW g adN N, gW L kd nu aa] : List va_W) ([rW g adR (adX 10) (adN 0) R] ++ [dE g (qD5, bD5, nD5, fD5, h103, hz104), xW g adX (adO 0) (adT 0) iX X, vW g adN N, gW L kd nu aa]) := b_perm [1] [0, 2, 3, 4] 5 rfl rfl rfl rfl
                  refine b_call (va_runV (As := []) (rest := []) ⟨hx, hb, hml, hown, hts⟩ (m_X11_wrong l D g H.size adR (adX 10) (adN 0) R) (cwV 0 hts (lw_V q968 q970 qs10 q100 q971) rfl rfl rfl (by decide +kernel) ⟨Nat.le_of_ble_eq_true rfl, Nat.le_of_ble_eq_true rfl⟩) (b_preV (pp := 1) (q := 0) hW hp201 rfl rW_0 rfl) rfl rfl hl.1 rfl (lv_room (Nat.le_of_ble_eq_true rfl)) dX11_item_226 ⟨Nat.le_of_ble_eq_true rfl, Nat.le_of_ble_eq_true rfl⟩) hW hp201 (fun zF202 _ H locs hW => ?_)
                  refine W.cs (cells' := 1) (slots' := 7) rfl rfl ?_
                  have hW : bW D g A s H locs [rW g adR (adX 10) (adN 0) R, [(zF202, .inr (12, xRf (R.1 0 2)))], dE g (qD5, bD5, nD5, fD5, h103, hz104), xW g adX (adO 0) (adT 0) iX X, vW g adN N, gW L kd nu aa] := hW
                  refine vx_athrow hx hb dX11_item_229 ?_
                  obtain ⟨ce202, hcell, hcv, hcl⟩ := b_xcell hW (pp := 1) (q := 0) (ci := 12) rfl rfl rfl
                  obtain ⟨D204, eD204, hf⟩ := q_ls hf
                  have hW : bW D g A s H _ [rW g adR (adX 10) (adN 0) R, [(zF202, .inr (12, xRf (R.1 0 2)))], dW g D204, xW g adX (adO 0) (adT 0) iX X, vW g adN N, gW L kd nu aa] := (by subst eD204; exact hW)
                  exact b_outX hE hlk hno (b_perms hW (b_ord [0, 3, 4, 5, 2, 1] 6 rfl rfl rfl)) (zF202, (R.1 0 2), R, N, L, kd, nu, aa, D204) rfl hcell hcv hcl ⟨rfl, rfl, hf⟩ (Nat.le_of_ble_eq_true rfl) (Nat.le_of_ble_eq_true rfl)
def f_X11_read_L10 (g : Nat → Nat) (X : BC) (fu : Nat) (post : Int32 → BC → BC → List Nat → (Nat → Nat) → (Nat → Int32) → (Nat → Int32) → (Option DT) → Prop) (postX : Int32 → BC → BC → List Nat → (Nat → Nat) → (Nat → Int32) → (Nat → Int32) → (Option DT) → Prop) (rec20 : (Int32 × BC × BC × List Nat × (Nat → Nat) × (Nat → Int32) × (Nat → Int32) × Option DT) → Prop) : Int32 × BC × BC × List Nat × (Nat → Nat) × (Nat → Int32) × (Nat → Int32) × Option DT → Prop
  | (v21, R22, N23, L24, kd25, nu26, aa27, D28) =>
    (if (R22.1 0 0) ≤ (R22.1 0 2) then
     post v21 R22 N23 L24 kd25 nu26 aa27 D28
     else
     f_X11_takes fu g R22 X D28 6 (fun (r31 : Int32) (R32 : BC) (D33 : (Option DT)) =>
     (if r31 = 0 then
     postX (R32.1 0 2) R32 N23 L24 kd25 nu26 aa27 D33
     else
     f_X11_item fu g R32 X N23 L24 kd25 nu26 aa27 D33 (fun (R44 : BC) (N45 : BC) (L46 : List Nat) (kd47 : (Nat → Nat)) (nu48 : (Nat → Int32)) (aa49 : (Nat → Int32)) (D50 : (Option DT)) =>
     q_lt (v21 + 1) fun (v51 : Int32) =>
     rec20 (v51, R44, N45, L46, kd47, nu48, aa49, D50)) (fun (by43 : Int32) (R36 : BC) (N37 : BC) (L38 : List Nat) (kd39 : (Nat → Nat)) (nu40 : (Nat → Int32)) (aa41 : (Nat → Int32)) (D42 : (Option DT)) => postX by43 R36 N37 L38 kd39 nu40 aa41 D42))) )
def f_X11_read (fu : Nat) (g : Nat → Nat) (R : BC) (X : BC) (N : BC) (L : List Nat) (kd : Nat → Nat) (nu : Nat → Int32) (aa : Nat → Int32) (Dd : Option DT) (post : Int32 → BC → BC → List Nat → (Nat → Nat) → (Nat → Int32) → (Nat → Int32) → (Option DT) → Prop) (postX : Int32 → BC → BC → List Nat → (Nat → Nat) → (Nat → Int32) → (Nat → Int32) → (Option DT) → Prop) : Prop :=
 f_X11_next fu g R X (fun (R2 : BC) (D3 : Option DT) =>
 f_X11_item fu g R2 X N L kd nu aa D3 (fun (R13 : BC) (N14 : BC) (L15 : List Nat) (kd16 : (Nat → Nat)) (nu17 : (Nat → Int32)) (aa18 : (Nat → Int32)) (D19 : (Option DT)) =>
 q_lp (f_X11_read_L10 g X fu post postX) 33 (1, R13, N14, L15, kd16, nu17, aa18, D19)) (fun (by12 : Int32) (R5 : BC) (N6 : BC) (L7 : List Nat) (kd8 : (Nat → Nat)) (nu9 : (Nat → Int32)) (aa10 : (Nat → Int32)) (D11 : (Option DT)) => postX by12 R5 N6 L7 kd8 nu9 aa10 D11))
abbrev rm_X11_read : Room := { frames := 10, cells := 2075, slots := 68925, locals := 263 }
set_option maxHeartbeats 4000000 in
set_option maxRecDepth 100000 in
theorem m_X11_read (l : Launch) (D : va_G) (g : Nat → ClassId) (sz : Nat) (adR : Nat → Nat) (adX : Nat → Nat) (iX : Option Nat) (adN : Nat → Nat) (adT : Nat → Nat) (adO : Nat → Nat) (fu : Nat) (R : BC) (X : BC) (N : BC) (L : List Nat) (kd : Nat → Nat) (nu : Nat → Int32) (aa : Nat → Int32) (Dd : Option DT) (post : Int32 → BC → BC → List Nat → (Nat → Nat) → (Nat → Int32) → (Nat → Int32) → (Option DT) → Prop) (postX : Int32 → BC → BC → List Nat → (Nat → Nat) → (Nat → Int32) → (Nat → Int32) → (Option DT) → Prop) (hf : f_X11_read fu g R X N L kd nu aa Dd post postX) : bxMet (S := Int32 × BC × BC × List Nat × (Nat → Nat) × (Nat → Int32) × (Nat → Int32) × (Option DT)) (SX := Nat × Int32 × BC × BC × List Nat × (Nat → Nat) × (Nat → Int32) × (Nat → Int32) × (Option DT)) l yX11_read (ws_ yX11_read cX11_read 2 (some .int)) rm_X11_read D g sz [.ref (adR 0)] [rW g adR (adX 10) (adN 0) R, xW g adX (adO 0) (adT 0) iX X, vW g adN N, gW L kd nu aa, dW g Dd] (fun u => post u.1 u.2.1 u.2.2.1 u.2.2.2.1 u.2.2.2.2.1 u.2.2.2.2.2.1 u.2.2.2.2.2.2.1 u.2.2.2.2.2.2.2) (fun u => some (.int u.1)) (fun u => [rW g adR (adX 10) (adN 0) (u.2.1), xW g adX (adO 0) (adT 0) iX X, vW g adN (u.2.2.1), gW u.2.2.2.1 u.2.2.2.2.1 u.2.2.2.2.2.1 u.2.2.2.2.2.2.1, dW g u.2.2.2.2.2.2.2]) (fun E q u => E = "EverybodyHasTheBook$Fault" ∧ q = u.1 ∧ postX u.2.1 u.2.2.1 u.2.2.2.1 u.2.2.2.2.1 u.2.2.2.2.2.1 u.2.2.2.2.2.2.1 u.2.2.2.2.2.2.2.1 u.2.2.2.2.2.2.2.2) (fun u => [rW g adR (adX 10) (adN 0) (u.2.2.1), xW g adX (adO 0) (adT 0) iX X, vW g adN (u.2.2.2.1), gW u.2.2.2.2.1 u.2.2.2.2.2.1 u.2.2.2.2.2.2.1 u.2.2.2.2.2.2.2.1, dW g u.2.2.2.2.2.2.2.2, [(u.1, .inr (12, xRf u.2.1))]]) := by
  refine b_metX (by decide) (Nat.le_of_ble_eq_true rfl) ?_
  intro p e s m args below meth c A Q ls hx hb hml hr hlk hown hname hts hno hE hl hW
  revert hW; generalize s.heap = H; intro hW
  have hl : lv_has ls 2 [(0, .ref (adR 0))] := hl
  rw [f_X11_read] at hf
  refine lv_iconst (v := 1) hx hb dX11_read_0 (by decide) ?_
  refine lv_istore_n (lv' := [(1, .int 1), (0, .ref (adR 0))]) hx hb dX11_read_1 rfl hl (by decide) rfl (fun ls hl => ?_)
  refine lv_aload_n hx hb dX11_read_2 rfl (lv_at hl 1 rfl) ?_
  have hp1 : List.Perm ([rW g adR (adX 10) (adN 0) R, xW g adX (adO 0) (adT 0) iX X, vW g adN N, gW L kd nu aa, dW g Dd] : List va_W) ([rW g adR (adX 10) (adN 0) R, xW g adX (adO 0) (adT 0) iX X] ++ [vW g adN N, gW L kd nu aa, dW g Dd]) := b_perm [0, 1] [2, 3, 4] 5 rfl rfl rfl rfl
  refine b_call (va_runV (As := []) (rest := []) ⟨hx, hb, hml, hown, hts⟩ (m_X11_next l D g H.size adR adX adN adO adT iX fu R X _ hf) (cwV 0 hts (lw_V q769 q771 qs7 q100 q772) rfl rfl rfl (by decide +kernel) ⟨Nat.le_of_ble_eq_true rfl, Nat.le_of_ble_eq_true rfl⟩) (b_preV (pp := 0) (q := 0) hW hp1 rfl rW_0 rfl) rfl rfl hl.1 rfl (lv_room (Nat.le_of_ble_eq_true rfl)) dX11_read_3 ⟨Nat.le_of_ble_eq_true rfl, Nat.le_of_ble_eq_true rfl⟩) hW hp1 (fun u1 hf H locs hW => ?_)
  obtain ⟨R2, D3⟩ := u1; try dsimp only at hf hW
  refine W.cs (cells' := 6) (slots' := 202) rfl rfl ?_
  have hW : bW D g A s H locs [rW g adR (adX 10) (adN 0) R2, xW g adX (adO 0) (adT 0) iX X, dW g D3, vW g adN N, gW L kd nu aa, dW g Dd] := hW
  have hW := b_sub (Bs' := [rW g adR (adX 10) (adN 0) R2, xW g adX (adO 0) (adT 0) iX X, dW g D3, vW g adN N, gW L kd nu aa]) (wr := [dW g Dd]) hW (b_ord [0, 1, 2, 3, 4, 5] 6 rfl rfl rfl)
  have hW : bW D g A s H locs [rW g adR (adX 10) (adN 0) R2, xW g adX (adO 0) (adT 0) iX X, dW g D3, vW g adN N, gW L kd nu aa] := hW
  refine lv_aload_n hx hb dX11_read_6 rfl (lv_at hl 1 rfl) ?_
  have hp4 : List.Perm ([rW g adR (adX 10) (adN 0) R2, xW g adX (adO 0) (adT 0) iX X, dW g D3, vW g adN N, gW L kd nu aa] : List va_W) ([rW g adR (adX 10) (adN 0) R2, xW g adX (adO 0) (adT 0) iX X, vW g adN N, gW L kd nu aa, dW g D3] ++ []) := b_perm [0, 1, 3, 4, 2] [] 5 rfl rfl rfl rfl
  refine b_callX (vx_runV (As := []) (rest := []) ⟨hx, hb, hml, hown, hts⟩ (m_X11_item l D g H.size adR adX iX adN adT adO fu R2 X N L kd nu aa D3 _ _ hf) (cwV 0 hts (lw_V q964 q966 qs9 q100 q967) rfl rfl rfl (by decide +kernel) ⟨Nat.le_of_ble_eq_true rfl, Nat.le_of_ble_eq_true rfl⟩) (b_preV (pp := 0) (q := 0) hW hp4 rfl rW_0 rfl) rfl rfl hl.1 rfl (lv_room (Nat.le_of_ble_eq_true rfl)) dX11_read_7 ⟨Nat.le_of_ble_eq_true rfl, Nat.le_of_ble_eq_true rfl⟩) hW hp4 (fun E q4 ce4 u4 hok H locs hW hcell hcv hcl => ?_) (fun u4 hf H locs hW => ?_)
  · try dsimp only at hok hW
    obtain ⟨z9, by12, R5, N6, L7, kd8, nu9, aa10, D11⟩ := u4
    obtain ⟨hE9, hq9, hf⟩ := hok; (try dsimp only at hq9 hf hW); subst hE9; subst hq9
    have hW : bW D g A s H locs [rW g adR (adX 10) (adN 0) R5, xW g adX (adO 0) (adT 0) iX X, vW g adN N6, gW L7 kd8 nu9 aa10, dW g D11, [(q4, .inr (12, xRf by12))]] := hW
    exact b_outX hE hlk hno hW (q4, by12, R5, N6, L7, kd8, nu9, aa10, D11) rfl hcell hcv hcl ⟨rfl, rfl, hf⟩ (Nat.le_of_ble_eq_true rfl) (Nat.le_of_ble_eq_true rfl)
  · try dsimp only at hf hW
    obtain ⟨R13, N14, L15, kd16, nu17, aa18, D19⟩ := u4
    try dsimp only at hf hW ⊢
    refine W.cs (cells' := 61) (slots' := 2027) rfl rfl ?_
    have hW : bW D g A s H locs [rW g adR (adX 10) (adN 0) R13, xW g adX (adO 0) (adT 0) iX X, vW g adN N14, gW L15 kd16 nu17 aa18, dW g D19] := hW
    obtain ⟨stp20, est20, hf⟩ := q_ln hf
    have L20 : ∀ (n : Nat) (v21 : Int32) (R22 : BC) (N23 : BC) (L24 : List Nat) (kd25 : Nat → Nat) (nu26 : Nat → Int32) (aa27 : Nat → Int32) (D28 : Option DT) (cn20 sn20 : Nat) (hq20 : cn20 + n * 61 ≤ 2075 ∧ sn20 + n * 2027 ≤ 68925) (H : Heap) (locs : List Loc) (ls : Array Slot), bW D g A s H locs [rW g adR (adX 10) (adN 0) R22, xW g adX (adO 0) (adT 0) iX X, vW g adN N23, gW L24 kd25 nu26 aa27, dW g D28] → lv_has ls 2 [(1, .int v21), (0, .ref (adR 0))] → q_lp stp20 n (v21, R22, N23, L24, kd25, nu26, aa27, D28) → W p l e rm_X11_read s m args below meth c H locs cn20 sn20 Q (F0 m 10 ls []) := by
      intro n20
      induction n20 with
      | zero => intro v21 R22 N23 L24 kd25 nu26 aa27 D28 cn20 sn20 hq20 H locs ls hW hl hf; exact (q_lz hf).elim
      | succ n20 ih20 =>
        intro v21 R22 N23 L24 kd25 nu26 aa27 D28 cn20 sn20 hq20 H locs ls hW hl hf
        have hf := q_lu est20 hf
        rw [f_X11_read_L10] at hf
        refine lv_aload_n hx hb dX11_read_10 rfl (lv_at hl 1 rfl) ?_
        refine b_get hx hb hts in_X11 hown hW 0 0 11 4 rfl rW_0 rfl (by decide) ⟨rfl, rfl, rfl⟩ (hts _ q747) rW_g4 dX11_read_11 ?_
        refine lv_aload_n hx hb dX11_read_14 rfl (lv_at hl 1 rfl) ?_
        refine b_get hx hb hts in_X11 hown hW 0 0 11 1 rfl rW_0 rfl (by decide) ⟨rfl, rfl, rfl⟩ (hts _ q743) rW_g1 dX11_read_15 ?_
        refine lv_icmp_ge (tgt := 45) hx hb dX11_read_18 (by decide) (fun c29 => ?_) (fun c29 => ?_)
        · have hf := q_t hf c29
          refine lv_iload_n hx hb dX11_read_45 rfl (lv_at hl 0 rfl) ?_
          refine b_toQ hE (fun Q hE => ?_)
          refine W.widen (k := 2075) (n := 68925) (by (have := hq20; omega)) (by (have := hq20; omega)) ?_
          exact b_iret hx hb hr hlk hE hW (v21, R22, N23, L24, kd25, nu26, aa27, D28) rfl hf rfl dX11_read_46
        · have hf := q_f hf c29
          refine lv_aload_n hx hb dX11_read_21 rfl (lv_at hl 1 rfl) ?_
          refine va_ldcS hx hb hown (b_kld hW (own := "EverybodyHasTheBook$Reader") (idx := 57) (tx := ";") (i := 6) 0 rfl) dX11_read_22 ?_
          have hp30 : List.Perm ([rW g adR (adX 10) (adN 0) R22, xW g adX (adO 0) (adT 0) iX X, vW g adN N23, gW L24 kd25 nu26 aa27, dW g D28] : List va_W) ([rW g adR (adX 10) (adN 0) R22, xW g adX (adO 0) (adT 0) iX X, dW g D28] ++ [vW g adN N23, gW L24 kd25 nu26 aa27]) := b_perm [0, 1, 4] [2, 3] 5 rfl rfl rfl rfl
          refine b_callX (vx_runV (As := [.ref (g (100 + 6))]) (rest := []) ⟨hx, hb, hml, hown, hts⟩ (m_X11_takes l D g H.size adR adX iX adN adT adO fu R22 X D28 6 _ (by decide) hf) (cwV 1 hts (lw_V q1071 q1073 qs14 q100 q1074) rfl rfl rfl (by decide +kernel) ⟨Nat.le_of_ble_eq_true rfl, Nat.le_of_ble_eq_true rfl⟩) (b_preV (pp := 0) (q := 0) hW hp30 rfl rW_0 rfl) rfl rfl hl.1 rfl (lv_room (Nat.le_of_ble_eq_true rfl)) dX11_read_24 ⟨(show cn20 + 6 ≤ 2075 from by (have := hq20; omega)), (show sn20 + 202 ≤ 68925 from by (have := hq20; omega))⟩) hW hp30 (fun E q30 ce30 u30 hok H locs hW hcell hcv hcl => ?_) (fun u30 hf H locs hW => ?_)
          · exact hok.elim
          · try dsimp only at hf hW
            obtain ⟨r31, R32, D33⟩ := u30
            try dsimp only at hf hW ⊢
            refine W.cs (cells' := (cn20 + 6)) (slots' := (sn20 + 202)) rfl rfl ?_
            have hW : bW D g A s H locs [rW g adR (adX 10) (adN 0) R32, xW g adX (adO 0) (adT 0) iX X, dW g D33, vW g adN N23, gW L24 kd25 nu26 aa27] := hW
            refine lv_if_ne (tgt := 35) hx hb dX11_read_27 (by decide) (fun c34 => ?_) (fun c34 => ?_)
            · have hf := q_f hf c34
              refine lv_aload_n hx hb dX11_read_35 rfl (lv_at hl 1 rfl) ?_
              have hp35 : List.Perm ([rW g adR (adX 10) (adN 0) R32, xW g adX (adO 0) (adT 0) iX X, dW g D33, vW g adN N23, gW L24 kd25 nu26 aa27] : List va_W) ([rW g adR (adX 10) (adN 0) R32, xW g adX (adO 0) (adT 0) iX X, vW g adN N23, gW L24 kd25 nu26 aa27, dW g D33] ++ []) := b_perm [0, 1, 3, 4, 2] [] 5 rfl rfl rfl rfl
              refine b_callX (vx_runV (As := []) (rest := []) ⟨hx, hb, hml, hown, hts⟩ (m_X11_item l D g H.size adR adX iX adN adT adO fu R32 X N23 L24 kd25 nu26 aa27 D33 _ _ hf) (cwV 0 hts (lw_V q964 q966 qs9 q100 q967) rfl rfl rfl (by decide +kernel) ⟨Nat.le_of_ble_eq_true rfl, Nat.le_of_ble_eq_true rfl⟩) (b_preV (pp := 0) (q := 0) hW hp35 rfl rW_0 rfl) rfl rfl hl.1 rfl (lv_room (Nat.le_of_ble_eq_true rfl)) dX11_read_36 ⟨(show (cn20 + 6) + 55 ≤ 2075 from by (have := hq20; omega)), (show (sn20 + 202) + 1825 ≤ 68925 from by (have := hq20; omega))⟩) hW hp35 (fun E q35 ce35 u35 hok H locs hW hcell hcv hcl => ?_) (fun u35 hf H locs hW => ?_)
              · try dsimp only at hok hW
                obtain ⟨z9, by43, R36, N37, L38, kd39, nu40, aa41, D42⟩ := u35
                obtain ⟨hE9, hq9, hf⟩ := hok; (try dsimp only at hq9 hf hW); subst hE9; subst hq9
                have hW : bW D g A s H locs [rW g adR (adX 10) (adN 0) R36, xW g adX (adO 0) (adT 0) iX X, vW g adN N37, gW L38 kd39 nu40 aa41, dW g D42, [(q35, .inr (12, xRf by43))]] := hW
                exact b_outX hE hlk hno hW (q35, by43, R36, N37, L38, kd39, nu40, aa41, D42) rfl hcell hcv hcl ⟨rfl, rfl, hf⟩ (show ((cn20 + 6) + 55) ≤ 2075 from by (have := hq20; omega)) (show ((sn20 + 202) + 1825) ≤ 68925 from by (have := hq20; omega))
              · try dsimp only at hf hW
                obtain ⟨R44, N45, L46, kd47, nu48, aa49, D50⟩ := u35
                try dsimp only at hf hW ⊢
                refine W.cs (cells' := ((cn20 + 6) + 55)) (slots' := ((sn20 + 202) + 1825)) rfl rfl ?_
                have hW : bW D g A s H locs [rW g adR (adX 10) (adN 0) R44, xW g adX (adO 0) (adT 0) iX X, vW g adN N45, gW L46 kd47 nu48 aa49, dW g D50] := hW
                obtain ⟨v51, ev51, hf⟩ := q_ls hf
                refine lv_iinc (v := v51) (lv' := [(1, .int v51), (0, .ref (adR 0))]) hx hb dX11_read_39 hl (k := 0) rfl ev51 (by decide) rfl (fun ls hl => ?_)
                refine lv_goto (tgt := 10) hx hb dX11_read_42 (by decide) ?_
                exact ih20 _ _ _ _ _ _ _ D50 (((cn20 + 6) + 55)) (((sn20 + 202) + 1825)) (by have := hq20; constructor <;> omega) _ _ _ hW (lv_sub hl [0, 1] rfl) hf
            · have hf := q_t hf c34
              refine lv_aload_n hx hb dX11_read_30 rfl (lv_at hl 1 rfl) ?_
              have hp52 : List.Perm ([rW g adR (adX 10) (adN 0) R32, xW g adX (adO 0) (adT 0) iX X, dW g D33, vW g adN N23, gW L24 kd25 nu26 aa27] : List va_W) ([rW g adR (adX 10) (adN 0) R32] ++ [xW g adX (adO 0) (adT 0) iX X, dW g D33, vW g adN N23, gW L24 kd25 nu26 aa27]) := b_perm [0] [1, 2, 3, 4] 5 rfl rfl rfl rfl
              refine b_call (va_runV (As := []) (rest := []) ⟨hx, hb, hml, hown, hts⟩ (m_X11_wrong l D g H.size adR (adX 10) (adN 0) R32) (cwV 0 hts (lw_V q968 q970 qs10 q100 q971) rfl rfl rfl (by decide +kernel) ⟨Nat.le_of_ble_eq_true rfl, Nat.le_of_ble_eq_true rfl⟩) (b_preV (pp := 0) (q := 0) hW hp52 rfl rW_0 rfl) rfl rfl hl.1 rfl (lv_room (Nat.le_of_ble_eq_true rfl)) dX11_read_31 ⟨(show (cn20 + 6) + 1 ≤ 2075 from by (have := hq20; omega)), (show (sn20 + 202) + 7 ≤ 68925 from by (have := hq20; omega))⟩) hW hp52 (fun zF53 _ H locs hW => ?_)
              refine W.cs (cells' := ((cn20 + 6) + 1)) (slots' := ((sn20 + 202) + 7)) rfl rfl ?_
              have hW : bW D g A s H locs [rW g adR (adX 10) (adN 0) R32, [(zF53, .inr (12, xRf (R32.1 0 2)))], xW g adX (adO 0) (adT 0) iX X, dW g D33, vW g adN N23, gW L24 kd25 nu26 aa27] := hW
              refine vx_athrow hx hb dX11_read_34 ?_
              obtain ⟨ce53, hcell, hcv, hcl⟩ := b_xcell hW (pp := 1) (q := 0) (ci := 12) rfl rfl rfl
              exact b_outX hE hlk hno (b_perms hW (b_ord [0, 2, 4, 5, 3, 1] 6 rfl rfl rfl)) (zF53, (R32.1 0 2), R32, N23, L24, kd25, nu26, aa27, D33) rfl hcell hcv hcl ⟨rfl, rfl, hf⟩ (show ((cn20 + 6) + 1) ≤ 2075 from by (have := hq20; omega)) (show ((sn20 + 202) + 7) ≤ 68925 from by (have := hq20; omega))
    exact L20 _ _ _ _ _ _ _ _ D19 (61) (2027) (⟨by decide, by decide⟩) _ _ _ hW (lv_sub hl [0, 1] rfl) hf
