/-! Rounds: brings(), goes() in four levels: printed by gen/all.py -/
set_option maxRecDepth 100000
def f_X13_brings_L12 (S : BC) (L : List Nat) (kd : Nat → Nat) (nu : Nat → Int32) (aa : Nat → Int32) (fu : Nat) (rec2 : (Int32 × Int32 × BC) → Option (Int32 × BC)) : Int32 × Int32 × BC → Option (Int32 × BC)
  | (v3, v4, T5) =>
    (if (S.1 0 0) ≤ v4 then
     some (v3, T5)
     else
     o_ck (inB v4 3) ((if (S.1 1 (ix v4)) = (-1) then
     o_b2 (f_X1_years fu T5 L kd nu aa 1 (-1)) fun (r9 : Int32) (T10 : BC) =>
     o_lt (v3 + r9) fun (v11 : Int32) =>
     o_lt (v4 + 1) fun (v12 : Int32) =>
     rec2 (v11, v12, T10)
     else
     o_ck (inB (S.1 1 (ix v4)) 6) (o_lt (T5.1 1 (ix (S.1 1 (ix v4)))) fun (v14 : Int32) =>
     o_lt (bI T5 5 (upd (T5.1 5) (ix (S.1 1 (ix v4))) v14)) fun (T15 : BC) =>
     o_b2 (f_X1_years fu T15 L kd nu aa 1 (-1)) fun (r16 : Int32) (T17 : BC) =>
     o_lt (v3 + r16) fun (v18 : Int32) =>
     o_lt (v4 + 1) fun (v19 : Int32) =>
     rec2 (v18, v19, T17)))))
def f_X13_brings (fu : Nat) (S : BC) (X : BC) (N : BC) (T : BC) (L : List Nat) (kd : Nat → Nat) (nu : Nat → Int32) (aa : Nat → Int32) : Option (Int32 × BC) :=
 o_b1 (f_X0_tried X N T L kd nu aa) fun (T1 : BC) =>
 o_lp (f_X13_brings_L12 S L kd nu aa fu) fu (0, 0, T1)
abbrev rm_X13_brings : Room := { frames := 8, cells := 0, slots := 0, locals := 188 }
set_option maxHeartbeats 4000000 in
set_option maxRecDepth 100000 in
theorem m_X13_brings (l : Launch) (D : va_G) (g : Nat → ClassId) (sz : Nat) (adS : Nat → Nat) (adX : Nat → Nat) (iX : Option Nat) (adN : Nat → Nat) (adT : Nat → Nat) (fu : Nat) (S : BC) (X : BC) (N : BC) (T : BC) (L : List Nat) (kd : Nat → Nat) (nu : Nat → Int32) (aa : Nat → Int32) (rO : Int32) (TO : BC) (hf : f_X13_brings fu S X N T L kd nu aa = some (rO, TO)) : bMet (S := Unit) l yX13_brings (ws_ yX13_brings cX13_brings 4 (some .int)) rm_X13_brings D g sz [.ref (adS 0)] [sW g adS (adX 0) S, xW g adX (adN 0) (adT 0) iX X, vW g adN N, vW g adT T, gW L kd nu aa] (fun _ => True) (fun _ => some (.int rO)) (fun _ => [sW g adS (adX 0) S, xW g adX (adN 0) (adT 0) iX X, vW g adN N, vW g adT TO, gW L kd nu aa]) := by
  refine b_met (by decide) (Nat.le_of_ble_eq_true rfl) ?_
  intro p e s m args below meth c A Q ls hx hb hml hr hlk hown hname hts hE hl hW
  revert hW; generalize s.heap = H; intro hW
  have hl : lv_has ls 4 [(0, .ref (adS 0))] := hl
  rw [f_X13_brings] at hf
  refine lv_aload_n hx hb dX13_brings_0 rfl (lv_at hl 0 rfl) ?_
  refine b_get hx hb hts in_X13 hown hW 0 0 13 5 rfl sW_0 rfl (by decide) ⟨rfl, rfl, rfl⟩ (hts _ q1346) sW_g5 dX13_brings_1 ?_
  obtain ⟨T1, hc1, hf⟩ := o_b1s hf
  have hp1 : List.Perm [sW g adS (adX 0) S, xW g adX (adN 0) (adT 0) iX X, vW g adN N, vW g adT T, gW L kd nu aa] ([xW g adX (adN 0) (adT 0) iX X, vW g adN N, vW g adT T, gW L kd nu aa] ++ [sW g adS (adX 0) S]) := b_perm [1, 2, 3, 4] [0] 5 rfl rfl rfl rfl
  refine b_call0 ⟨rfl, rfl⟩ (va_runVN (C := "EverybodyHasTheBook") (As := []) (rest := []) ⟨hx, hb, hml, hown, hts⟩ (m_X0_tried l D g H.size adX iX adN adT X N T L kd nu aa T1 hc1) ⟨va_cnB 0 hts (lw_meth q1226) rfl rfl rfl (hW.2.2.2.2.2.1 _ (List.mem_of_getElem? (i := 7) rfl)) (hts _ q76) (by decide +kernel) ⟨Nat.le_of_ble_eq_true rfl, Nat.le_of_ble_eq_true rfl⟩, hts _ q1225, hts _ qs22⟩ (b_preV (pp := 1) (q := 0) hW hp1 rfl xW_0 rfl) rfl rfl hl.1 rfl (lv_room (Nat.le_of_ble_eq_true rfl)) dX13_brings_4 ⟨Nat.le_of_ble_eq_true rfl, Nat.le_of_ble_eq_true rfl⟩) hW hp1 (fun _ _ H locs hW => ?_)
  have hW : bW D g A s H locs [xW g adX (adN 0) (adT 0) iX X, vW g adN N, vW g adT T1, gW L kd nu aa, sW g adS (adX 0) S] := hW
  refine lv_astore_n (lv' := [(1, .ref (adT 0)), (0, .ref (adS 0))]) hx hb dX13_brings_7 rfl hl (by decide) rfl (fun ls hl => ?_)
  refine lv_iconst (v := 0) hx hb dX13_brings_8 (by decide) ?_
  refine lv_istore_n (lv' := [(2, .int 0), (1, .ref (adT 0)), (0, .ref (adS 0))]) hx hb dX13_brings_9 rfl hl (by decide) rfl (fun ls hl => ?_)
  refine lv_iconst (v := 0) hx hb dX13_brings_10 (by decide) ?_
  refine lv_istore_n (lv' := [(3, .int 0), (2, .int 0), (1, .ref (adT 0)), (0, .ref (adS 0))]) hx hb dX13_brings_11 rfl hl (by decide) rfl (fun ls hl => ?_)
  obtain ⟨stp2, est2, hf⟩ := o_ln hf
  have L2 : ∀ (n : Nat) (v3 : Int32) (v4 : Int32) (T5 : BC) (H : Heap) (locs : List Loc) (ls : Array Slot), bW D g A s H locs [xW g adX (adN 0) (adT 0) iX X, vW g adN N, vW g adT T5, gW L kd nu aa, sW g adS (adX 0) S] → lv_has ls 4 [(3, .int v4), (2, .int v3), (1, .ref (adT 0)), (0, .ref (adS 0))] → o_lp stp2 n (v3, v4, T5) = some (rO, TO) → W p l e rm_X13_brings s m args below meth c H locs 0 0 Q (F0 m 12 ls []) := by
    intro n2
    induction n2 with
    | zero => intro v3 v4 T5 H locs ls hW hl hf; exact (o_lz hf).elim
    | succ n2 ih2 =>
      intro v3 v4 T5 H locs ls hW hl hf
      have hf := o_lu est2 hf
      rw [f_X13_brings_L12] at hf
      refine lv_iload_n hx hb dX13_brings_12 rfl (lv_at hl 0 rfl) ?_
      refine lv_aload_n hx hb dX13_brings_13 rfl (lv_at hl 3 rfl) ?_
      refine b_get hx hb hts in_X13 hown hW 4 0 13 0 rfl sW_0 rfl (by decide) ⟨rfl, rfl, rfl⟩ (hts _ q1339) sW_g0 dX13_brings_14 ?_
      refine lv_icmp_ge (tgt := 67) hx hb dX13_brings_17 (by decide) (fun c6 => ?_) (fun c6 => ?_)
      · have hf := o_t hf c6
        refine lv_iload_n hx hb dX13_brings_67 rfl (lv_at hl 1 rfl) ?_
        cases hf
        exact b_iret hx hb hr hlk hE (b_perms hW (b_ord [4, 0, 1, 2, 3] 5 rfl rfl rfl)) () rfl trivial rfl dX13_brings_68
      · have hf := o_f hf c6
        refine lv_aload_n hx hb dX13_brings_20 rfl (lv_at hl 3 rfl) ?_
        refine b_get hx hb hts in_X13 hown hW 4 0 13 1 rfl sW_0 rfl (by decide) ⟨rfl, rfl, rfl⟩ (hts _ q1340) sW_g1 dX13_brings_21 ?_
        refine lv_iload_n hx hb dX13_brings_24 rfl (lv_at hl 0 rfl) ?_
        obtain ⟨h7, hf⟩ := o_cs hf
        refine b_iald hx hb hW 4 1 rfl sW_1 h7 dX13_brings_25 ?_
        refine lv_iconst (v := (-1)) hx hb dX13_brings_26 (by decide) ?_
        refine lv_icmp_eq (tgt := 52) hx hb dX13_brings_27 (by decide) (fun c8 => ?_) (fun c8 => ?_)
        · have hf := o_t hf c8
          refine lv_iload_n hx hb dX13_brings_52 rfl (lv_at hl 1 rfl) ?_
          refine lv_aload_n hx hb dX13_brings_53 rfl (lv_at hl 2 rfl) ?_
          refine lv_iconst (v := 1) hx hb dX13_brings_54 (by decide) ?_
          refine lv_iconst (v := (-1)) hx hb dX13_brings_55 (by decide) ?_
          obtain ⟨r9, T10, hc10, hf⟩ := o_b2s hf
          have hp10 : List.Perm [xW g adX (adN 0) (adT 0) iX X, vW g adN N, vW g adT T5, gW L kd nu aa, sW g adS (adX 0) S] ([vW g adT T5, gW L kd nu aa] ++ [xW g adX (adN 0) (adT 0) iX X, vW g adN N, sW g adS (adX 0) S]) := b_perm [2, 3] [0, 1, 4] 5 rfl rfl rfl rfl
          refine b_call0 ⟨rfl, rfl⟩ (va_runV (As := [.int 1, .int (-1)]) (rest := [.int v3]) ⟨hx, hb, hml, hown, hts⟩ (m_X1_years l D g H.size adT fu T5 L kd nu aa 1 (-1) r9 T10 hc10) (cwV 2 hts (lw_V q1337 q1275 q1276 q77 q1277) rfl rfl rfl (by decide +kernel) ⟨Nat.le_of_ble_eq_true rfl, Nat.le_of_ble_eq_true rfl⟩) (b_preV (pp := 2) (q := 0) hW hp10 rfl vW_0 rfl) rfl rfl hl.1 rfl (lv_room (Nat.le_of_ble_eq_true rfl)) dX13_brings_56 ⟨Nat.le_of_ble_eq_true rfl, Nat.le_of_ble_eq_true rfl⟩) hW hp10 (fun _ _ H locs hW => ?_)
          have hW : bW D g A s H locs [vW g adT T10, gW L kd nu aa, xW g adX (adN 0) (adT 0) iX X, vW g adN N, sW g adS (adX 0) S] := hW
          refine lv_iadd hx hb dX13_brings_59 ?_
          obtain ⟨v11, ev11, hf⟩ := o_ls hf
          refine b_topi ev11 ?_
          refine lv_istore_n (lv' := [(2, .int v11), (3, .int v4), (1, .ref (adT 0)), (0, .ref (adS 0))]) hx hb dX13_brings_60 rfl hl (by decide) rfl (fun ls hl => ?_)
          obtain ⟨v12, ev12, hf⟩ := o_ls hf
          refine lv_iinc (v := v12) (lv' := [(3, .int v12), (2, .int v11), (1, .ref (adT 0)), (0, .ref (adS 0))]) hx hb dX13_brings_61 hl (k := 1) rfl ev12 (by decide) rfl (fun ls hl => ?_)
          refine lv_goto (tgt := 12) hx hb dX13_brings_64 (by decide) ?_
          exact ih2 _ _ _ _ _ _ (b_perms hW (b_ord [2, 3, 0, 1, 4] 5 rfl rfl rfl)) (lv_sub hl [0, 1, 2, 3] rfl) hf
        · have hf := o_f hf c8
          refine lv_aload_n hx hb dX13_brings_30 rfl (lv_at hl 2 rfl) ?_
          refine b_get hx hb hts in_X1 hown hW 2 0 1 4 rfl vW_0 rfl (by decide) ⟨rfl, rfl, rfl⟩ (hts _ q141) vW_g4 dX13_brings_31 ?_
          refine lv_aload_n hx hb dX13_brings_34 rfl (lv_at hl 3 rfl) ?_
          refine b_get hx hb hts in_X13 hown hW 4 0 13 1 rfl sW_0 rfl (by decide) ⟨rfl, rfl, rfl⟩ (hts _ q1340) sW_g1 dX13_brings_35 ?_
          refine lv_iload_n hx hb dX13_brings_38 rfl (lv_at hl 0 rfl) ?_
          refine b_iald hx hb hW 4 1 rfl sW_1 h7 dX13_brings_39 ?_
          refine lv_aload_n hx hb dX13_brings_40 rfl (lv_at hl 2 rfl) ?_
          refine b_get hx hb hts in_X1 hown hW 2 0 1 0 rfl vW_0 rfl (by decide) ⟨rfl, rfl, rfl⟩ (hts _ q129) vW_g0 dX13_brings_41 ?_
          refine lv_aload_n hx hb dX13_brings_44 rfl (lv_at hl 3 rfl) ?_
          refine b_get hx hb hts in_X13 hown hW 4 0 13 1 rfl sW_0 rfl (by decide) ⟨rfl, rfl, rfl⟩ (hts _ q1340) sW_g1 dX13_brings_45 ?_
          refine lv_iload_n hx hb dX13_brings_48 rfl (lv_at hl 0 rfl) ?_
          refine b_iald hx hb hW 4 1 rfl sW_1 h7 dX13_brings_49 ?_
          obtain ⟨h13, hf⟩ := o_cs hf
          refine b_iald hx hb hW 2 1 rfl vW_1 h13 dX13_brings_50 ?_
          obtain ⟨v14, ev14, hf⟩ := o_ls hf
          refine b_topi ev14 ?_
          obtain ⟨T15, eT15, hf⟩ := o_ls hf
          refine b_iast hx hb hW 2 5 rfl vW_5 (vW_s5 eT15) rfl h13 dX13_brings_51 (fun H locs hW => ?_)
          have hW : bW D g A s H locs [xW g adX (adN 0) (adT 0) iX X, vW g adN N, vW g adT T15, gW L kd nu aa, sW g adS (adX 0) S] := hW
          refine lv_iload_n hx hb dX13_brings_52 rfl (lv_at hl 1 rfl) ?_
          refine lv_aload_n hx hb dX13_brings_53 rfl (lv_at hl 2 rfl) ?_
          refine lv_iconst (v := 1) hx hb dX13_brings_54 (by decide) ?_
          refine lv_iconst (v := (-1)) hx hb dX13_brings_55 (by decide) ?_
          obtain ⟨r16, T17, hc17, hf⟩ := o_b2s hf
          have hp17 : List.Perm [xW g adX (adN 0) (adT 0) iX X, vW g adN N, vW g adT T15, gW L kd nu aa, sW g adS (adX 0) S] ([vW g adT T15, gW L kd nu aa] ++ [xW g adX (adN 0) (adT 0) iX X, vW g adN N, sW g adS (adX 0) S]) := b_perm [2, 3] [0, 1, 4] 5 rfl rfl rfl rfl
          refine b_call0 ⟨rfl, rfl⟩ (va_runV (As := [.int 1, .int (-1)]) (rest := [.int v3]) ⟨hx, hb, hml, hown, hts⟩ (m_X1_years l D g H.size adT fu T15 L kd nu aa 1 (-1) r16 T17 hc17) (cwV 2 hts (lw_V q1337 q1275 q1276 q77 q1277) rfl rfl rfl (by decide +kernel) ⟨Nat.le_of_ble_eq_true rfl, Nat.le_of_ble_eq_true rfl⟩) (b_preV (pp := 2) (q := 0) hW hp17 rfl vW_0 rfl) rfl rfl hl.1 rfl (lv_room (Nat.le_of_ble_eq_true rfl)) dX13_brings_56 ⟨Nat.le_of_ble_eq_true rfl, Nat.le_of_ble_eq_true rfl⟩) hW hp17 (fun _ _ H locs hW => ?_)
          have hW : bW D g A s H locs [vW g adT T17, gW L kd nu aa, xW g adX (adN 0) (adT 0) iX X, vW g adN N, sW g adS (adX 0) S] := hW
          refine lv_iadd hx hb dX13_brings_59 ?_
          obtain ⟨v18, ev18, hf⟩ := o_ls hf
          refine b_topi ev18 ?_
          refine lv_istore_n (lv' := [(2, .int v18), (3, .int v4), (1, .ref (adT 0)), (0, .ref (adS 0))]) hx hb dX13_brings_60 rfl hl (by decide) rfl (fun ls hl => ?_)
          obtain ⟨v19, ev19, hf⟩ := o_ls hf
          refine lv_iinc (v := v19) (lv' := [(3, .int v19), (2, .int v18), (1, .ref (adT 0)), (0, .ref (adS 0))]) hx hb dX13_brings_61 hl (k := 1) rfl ev19 (by decide) rfl (fun ls hl => ?_)
          refine lv_goto (tgt := 12) hx hb dX13_brings_64 (by decide) ?_
          exact ih2 _ _ _ _ _ _ (b_perms hW (b_ord [2, 3, 0, 1, 4] 5 rfl rfl rfl)) (lv_sub hl [0, 1, 2, 3] rfl) hf
  exact L2 _ _ _ _ _ _ _ hW (lv_sub hl [0, 1, 2, 3] rfl) hf
def f_X13_goes_3_L10 (N : BC) (T : BC) (rec12 : (Int32 × BC) → Option (BC × BC)) : Int32 × BC → Option (BC × BC)
  | (v13, S14) =>
    (if (N.1 0 0) ≤ v13 then
     some (S14, T)
     else
     none)
def f_X13_goes_3 (fu : Nat) (S : BC) (X : BC) (N : BC) (T : BC) (L : List Nat) (kd : Nat → Nat) (nu : Nat → Int32) (aa : Nat → Int32) (x1 : Int32) : Option (BC × BC) :=
 (if (S.1 0 0) ≤ x1 then
 o_b2 (f_X13_brings fu S X N T L kd nu aa) fun (r2 : Int32) (T3 : BC) =>
 (if (S.1 0 1) = 0 then
 o_lt (bI S 0 (upd (S.1 0) 1 1)) fun (S5 : BC) =>
 o_lt (bI S5 0 (upd (S5.1 0) 2 r2)) fun (S6 : BC) =>
 o_lt (bI S6 2 (va_cpy (S6.1 1) (S6.1 2) (ix 0) (ix 0) (ix 3))) fun (S7 : BC) =>
 some (S7, T3)
 else
 (if r2 ≤ (S.1 0 2) then
 some (S, T3)
 else
 o_lt (bI S 0 (upd (S.1 0) 1 1)) fun (S9 : BC) =>
 o_lt (bI S9 0 (upd (S9.1 0) 2 r2)) fun (S10 : BC) =>
 o_lt (bI S10 2 (va_cpy (S10.1 1) (S10.1 2) (ix 0) (ix 0) (ix 3))) fun (S11 : BC) =>
 some (S11, T3)))
 else
 o_lp (f_X13_goes_3_L10 N T) fu ((-1), S))
abbrev rm_X13_goes_3 : Room := { frames := 9, cells := 0, slots := 0, locals := 211 }
set_option maxHeartbeats 4000000 in
set_option maxRecDepth 100000 in
theorem m_X13_goes_3 (l : Launch) (D : va_G) (g : Nat → ClassId) (sz : Nat) (adS : Nat → Nat) (adX : Nat → Nat) (iX : Option Nat) (adN : Nat → Nat) (adT : Nat → Nat) (fu : Nat) (S : BC) (X : BC) (N : BC) (T : BC) (L : List Nat) (kd : Nat → Nat) (nu : Nat → Int32) (aa : Nat → Int32) (x1 : Int32) (SO : BC) (TO : BC) (hf : f_X13_goes_3 fu S X N T L kd nu aa x1 = some (SO, TO)) : bMet (S := Unit) l yX13_goes (ws_ yX13_goes cX13_goes 3 none) rm_X13_goes_3 D g sz [.ref (adS 0), .int x1] [sW g adS (adX 0) S, xW g adX (adN 0) (adT 0) iX X, vW g adN N, vW g adT T, gW L kd nu aa] (fun _ => True) (fun _ => none) (fun _ => [sW g adS (adX 0) SO, xW g adX (adN 0) (adT 0) iX X, vW g adN N, vW g adT TO, gW L kd nu aa]) := by
  refine b_met (by decide) (Nat.le_of_ble_eq_true rfl) ?_
  intro p e s m args below meth c A Q ls hx hb hml hr hlk hown hname hts hE hl hW
  revert hW; generalize s.heap = H; intro hW
  have hl : lv_has ls 3 [(0, .ref (adS 0)), (1, .int x1)] := hl
  rw [f_X13_goes_3] at hf
  refine lv_iload_n hx hb dX13_goes_0 rfl (lv_at hl 1 rfl) ?_
  refine lv_aload_n hx hb dX13_goes_1 rfl (lv_at hl 0 rfl) ?_
  refine b_get hx hb hts in_X13 hown hW 0 0 13 0 rfl sW_0 rfl (by decide) ⟨rfl, rfl, rfl⟩ (hts _ q1339) sW_g0 dX13_goes_2 ?_
  refine lv_icmp_ge (tgt := 45) hx hb dX13_goes_5 (by decide) (fun c1 => ?_) (fun c1 => ?_)
  · have hf := o_t hf c1
    refine lv_aload_n hx hb dX13_goes_45 rfl (lv_at hl 0 rfl) ?_
    obtain ⟨r2, T3, hc3, hf⟩ := o_b2s hf
    have hp3 : List.Perm [sW g adS (adX 0) S, xW g adX (adN 0) (adT 0) iX X, vW g adN N, vW g adT T, gW L kd nu aa] ([sW g adS (adX 0) S, xW g adX (adN 0) (adT 0) iX X, vW g adN N, vW g adT T, gW L kd nu aa] ++ []) := b_perm [0, 1, 2, 3, 4] [] 5 rfl rfl rfl rfl
    refine b_call0 ⟨rfl, rfl⟩ (va_runV (As := []) (rest := []) ⟨hx, hb, hml, hown, hts⟩ (m_X13_brings l D g H.size adS adX iX adN adT fu S X N T L kd nu aa r2 T3 hc3) (cwV 0 hts (lw_V q1332 q1334 qs29 q109 q1335) rfl rfl rfl (by decide +kernel) ⟨Nat.le_of_ble_eq_true rfl, Nat.le_of_ble_eq_true rfl⟩) (b_preV (pp := 0) (q := 0) hW hp3 rfl sW_0 rfl) rfl rfl hl.1 rfl (lv_room (Nat.le_of_ble_eq_true rfl)) dX13_goes_46 ⟨Nat.le_of_ble_eq_true rfl, Nat.le_of_ble_eq_true rfl⟩) hW hp3 (fun _ _ H locs hW => ?_)
    have hW : bW D g A s H locs [sW g adS (adX 0) S, xW g adX (adN 0) (adT 0) iX X, vW g adN N, vW g adT T3, gW L kd nu aa] := hW
    refine lv_istore_n (lv' := [(2, .int r2), (0, .ref (adS 0)), (1, .int x1)]) hx hb dX13_goes_49 rfl hl (by decide) rfl (fun ls hl => ?_)
    refine lv_aload_n hx hb dX13_goes_50 rfl (lv_at hl 1 rfl) ?_
    refine b_get hx hb hts in_X13 hown hW 0 0 13 3 rfl sW_0 rfl (by decide) ⟨rfl, rfl, rfl⟩ (hts _ q1343) sW_g3 dX13_goes_51 ?_
    refine lv_if_eq (tgt := 65) hx hb dX13_goes_54 (by decide) (fun c4 => ?_) (fun c4 => ?_)
    · have hf := o_t hf c4
      refine lv_aload_n hx hb dX13_goes_65 rfl (lv_at hl 1 rfl) ?_
      refine lv_iconst (v := 1) hx hb dX13_goes_66 (by decide) ?_
      obtain ⟨S5, eS5, hf⟩ := o_ls hf
      refine b_put hx hb hts in_X13 tyX13 tyX13_ok nmX13 hown hW 0 0 13 3 rfl sW_0 (sW_p3 eS5) rfl rfl (by decide) ⟨rfl, rfl, rfl⟩ (hts _ q1343) rfl (ty := .boolean) rfl rfl rfl (by rw [sW_l]; decide) dX13_goes_67 (fun H locs hW => ?_)
      have hW : bW D g A s H locs [sW g adS (adX 0) S5, xW g adX (adN 0) (adT 0) iX X, vW g adN N, vW g adT T3, gW L kd nu aa] := hW
      refine lv_aload_n hx hb dX13_goes_70 rfl (lv_at hl 1 rfl) ?_
      refine lv_iload_n hx hb dX13_goes_71 rfl (lv_at hl 0 rfl) ?_
      obtain ⟨S6, eS6, hf⟩ := o_ls hf
      refine b_put hx hb hts in_X13 tyX13 tyX13_ok nmX13 hown hW 0 0 13 4 rfl sW_0 (sW_p4 eS6) rfl rfl (by decide) ⟨rfl, rfl, rfl⟩ (hts _ q1344) rfl (ty := .int) rfl rfl rfl (by rw [sW_l]; decide) dX13_goes_72 (fun H locs hW => ?_)
      have hW : bW D g A s H locs [sW g adS (adX 0) S6, xW g adX (adN 0) (adT 0) iX X, vW g adN N, vW g adT T3, gW L kd nu aa] := hW
      refine lv_aload_n hx hb dX13_goes_75 rfl (lv_at hl 1 rfl) ?_
      refine b_get hx hb hts in_X13 hown hW 0 0 13 1 rfl sW_0 rfl (by decide) ⟨rfl, rfl, rfl⟩ (hts _ q1340) sW_g1 dX13_goes_76 ?_
      refine lv_iconst (v := 0) hx hb dX13_goes_79 (by decide) ?_
      refine lv_aload_n hx hb dX13_goes_80 rfl (lv_at hl 1 rfl) ?_
      refine b_get hx hb hts in_X13 hown hW 0 0 13 2 rfl sW_0 rfl (by decide) ⟨rfl, rfl, rfl⟩ (hts _ q1341) sW_g2 dX13_goes_81 ?_
      refine lv_iconst (v := 0) hx hb dX13_goes_84 (by decide) ?_
      refine lv_iconst (v := 3) hx hb dX13_goes_85 (by decide) ?_
      obtain ⟨S7, eS7, hf⟩ := o_ls hf
      refine b_cpI hx hb (by rw [hml]; exact hl.1.symm) hown (hts _ q1338) (hts _ q469) (hts _ q468) (hts _ q90) hW 0 1 0 2 rfl sW_1 rfl sW_2 (sW_s2 eS7) rfl (by decide) (by decide) (by decide) (by decide) (by decide) (Nat.le_of_ble_eq_true rfl) (Nat.le_of_ble_eq_true rfl) dX13_goes_86 (fun H locs hW => ?_)
      have hW : bW D g A s H locs [sW g adS (adX 0) S7, xW g adX (adN 0) (adT 0) iX X, vW g adN N, vW g adT T3, gW L kd nu aa] := hW
      cases hf
      exact b_vret hx hb hr hlk hE hW () rfl trivial rfl dX13_goes_89
    · have hf := o_f hf c4
      refine lv_iload_n hx hb dX13_goes_57 rfl (lv_at hl 0 rfl) ?_
      refine lv_aload_n hx hb dX13_goes_58 rfl (lv_at hl 1 rfl) ?_
      refine b_get hx hb hts in_X13 hown hW 0 0 13 4 rfl sW_0 rfl (by decide) ⟨rfl, rfl, rfl⟩ (hts _ q1344) sW_g4 dX13_goes_59 ?_
      refine lv_icmp_le (tgt := 89) hx hb dX13_goes_62 (by decide) (fun c8 => ?_) (fun c8 => ?_)
      · have hf := o_t hf c8
        cases hf
        exact b_vret hx hb hr hlk hE hW () rfl trivial rfl dX13_goes_89
      · have hf := o_f hf c8
        refine lv_aload_n hx hb dX13_goes_65 rfl (lv_at hl 1 rfl) ?_
        refine lv_iconst (v := 1) hx hb dX13_goes_66 (by decide) ?_
        obtain ⟨S9, eS9, hf⟩ := o_ls hf
        refine b_put hx hb hts in_X13 tyX13 tyX13_ok nmX13 hown hW 0 0 13 3 rfl sW_0 (sW_p3 eS9) rfl rfl (by decide) ⟨rfl, rfl, rfl⟩ (hts _ q1343) rfl (ty := .boolean) rfl rfl rfl (by rw [sW_l]; decide) dX13_goes_67 (fun H locs hW => ?_)
        have hW : bW D g A s H locs [sW g adS (adX 0) S9, xW g adX (adN 0) (adT 0) iX X, vW g adN N, vW g adT T3, gW L kd nu aa] := hW
        refine lv_aload_n hx hb dX13_goes_70 rfl (lv_at hl 1 rfl) ?_
        refine lv_iload_n hx hb dX13_goes_71 rfl (lv_at hl 0 rfl) ?_
        obtain ⟨S10, eS10, hf⟩ := o_ls hf
        refine b_put hx hb hts in_X13 tyX13 tyX13_ok nmX13 hown hW 0 0 13 4 rfl sW_0 (sW_p4 eS10) rfl rfl (by decide) ⟨rfl, rfl, rfl⟩ (hts _ q1344) rfl (ty := .int) rfl rfl rfl (by rw [sW_l]; decide) dX13_goes_72 (fun H locs hW => ?_)
        have hW : bW D g A s H locs [sW g adS (adX 0) S10, xW g adX (adN 0) (adT 0) iX X, vW g adN N, vW g adT T3, gW L kd nu aa] := hW
        refine lv_aload_n hx hb dX13_goes_75 rfl (lv_at hl 1 rfl) ?_
        refine b_get hx hb hts in_X13 hown hW 0 0 13 1 rfl sW_0 rfl (by decide) ⟨rfl, rfl, rfl⟩ (hts _ q1340) sW_g1 dX13_goes_76 ?_
        refine lv_iconst (v := 0) hx hb dX13_goes_79 (by decide) ?_
        refine lv_aload_n hx hb dX13_goes_80 rfl (lv_at hl 1 rfl) ?_
        refine b_get hx hb hts in_X13 hown hW 0 0 13 2 rfl sW_0 rfl (by decide) ⟨rfl, rfl, rfl⟩ (hts _ q1341) sW_g2 dX13_goes_81 ?_
        refine lv_iconst (v := 0) hx hb dX13_goes_84 (by decide) ?_
        refine lv_iconst (v := 3) hx hb dX13_goes_85 (by decide) ?_
        obtain ⟨S11, eS11, hf⟩ := o_ls hf
        refine b_cpI hx hb (by rw [hml]; exact hl.1.symm) hown (hts _ q1338) (hts _ q469) (hts _ q468) (hts _ q90) hW 0 1 0 2 rfl sW_1 rfl sW_2 (sW_s2 eS11) rfl (by decide) (by decide) (by decide) (by decide) (by decide) (Nat.le_of_ble_eq_true rfl) (Nat.le_of_ble_eq_true rfl) dX13_goes_86 (fun H locs hW => ?_)
        have hW : bW D g A s H locs [sW g adS (adX 0) S11, xW g adX (adN 0) (adT 0) iX X, vW g adN N, vW g adT T3, gW L kd nu aa] := hW
        cases hf
        exact b_vret hx hb hr hlk hE hW () rfl trivial rfl dX13_goes_89
  · have hf := o_f hf c1
    refine lv_iconst (v := (-1)) hx hb dX13_goes_8 (by decide) ?_
    refine lv_istore_n (lv' := [(2, .int (-1)), (0, .ref (adS 0)), (1, .int x1)]) hx hb dX13_goes_9 rfl hl (by decide) rfl (fun ls hl => ?_)
    obtain ⟨stp12, est12, hf⟩ := o_ln hf
    have L12 : ∀ (n : Nat) (v13 : Int32) (S14 : BC) (H : Heap) (locs : List Loc) (ls : Array Slot), bW D g A s H locs [sW g adS (adX 0) S14, xW g adX (adN 0) (adT 0) iX X, vW g adN N, vW g adT T, gW L kd nu aa] → lv_has ls 3 [(2, .int v13), (0, .ref (adS 0)), (1, .int x1)] → o_lp stp12 n (v13, S14) = some (SO, TO) → W p l e rm_X13_goes_3 s m args below meth c H locs 0 0 Q (F0 m 10 ls []) := by
      intro n12
      induction n12 with
      | zero => intro v13 S14 H locs ls hW hl hf; exact (o_lz hf).elim
      | succ n12 ih12 =>
        intro v13 S14 H locs ls hW hl hf
        have hf := o_lu est12 hf
        rw [f_X13_goes_3_L10] at hf
        refine lv_iload_n hx hb dX13_goes_10 rfl (lv_at hl 0 rfl) ?_
        refine lv_aload_n hx hb dX13_goes_11 rfl (lv_at hl 1 rfl) ?_
        refine b_get hx hb hts in_X13 hown hW 0 0 13 5 rfl sW_0 rfl (by decide) ⟨rfl, rfl, rfl⟩ (hts _ q1346) sW_g5 dX13_goes_12 ?_
        refine b_getN hx hb hts in_X0 hown hW 1 0 0 0 rfl xW_0 rfl (by decide) ⟨rfl, rfl, rfl⟩ (va_Nw.use rfl (hW.2.2.2.2.2.2.1 _ (List.mem_of_getElem? (i := 0) rfl))) xW_g0 dX13_goes_15 ?_
        refine b_get hx hb hts in_X1 hown hW 2 0 1 12 rfl vW_0 rfl (by decide) ⟨rfl, rfl, rfl⟩ (hts _ q164) vW_g12 dX13_goes_18 ?_
        refine lv_icmp_ge (tgt := 44) hx hb dX13_goes_21 (by decide) (fun c15 => ?_) (fun c15 => ?_)
        · have hf := o_t hf c15
          cases hf
          exact b_vret hx hb hr hlk hE hW () rfl trivial rfl dX13_goes_44
        · have hf := o_f hf c15
          cases hf
    exact L12 _ _ _ _ _ _ hW (lv_sub hl [0, 1, 2] rfl) hf
def f_X13_goes_2_L10 (X : BC) (N : BC) (L : List Nat) (kd : Nat → Nat) (nu : Nat → Int32) (aa : Nat → Int32) (x1 : Int32) (fu : Nat) (rec12 : (Int32 × BC × BC) → Option (BC × BC)) : Int32 × BC × BC → Option (BC × BC)
  | (v13, S14, T15) =>
    (if (N.1 0 0) ≤ v13 then
     some (S14, T15)
     else
     o_ck (inB x1 3) (o_lt (bI S14 1 (upd (S14.1 1) (ix x1) v13)) fun (S18 : BC) =>
     o_b2 (f_X13_goes_3 fu S18 X N T15 L kd nu aa (x1 + 1)) fun (S19 : BC) (T20 : BC) =>
     o_lt (v13 + 1) fun (v21 : Int32) =>
     rec12 (v21, S19, T20)))
def f_X13_goes_2 (fu : Nat) (S : BC) (X : BC) (N : BC) (T : BC) (L : List Nat) (kd : Nat → Nat) (nu : Nat → Int32) (aa : Nat → Int32) (x1 : Int32) : Option (BC × BC) :=
 (if (S.1 0 0) ≤ x1 then
 o_b2 (f_X13_brings fu S X N T L kd nu aa) fun (r2 : Int32) (T3 : BC) =>
 (if (S.1 0 1) = 0 then
 o_lt (bI S 0 (upd (S.1 0) 1 1)) fun (S5 : BC) =>
 o_lt (bI S5 0 (upd (S5.1 0) 2 r2)) fun (S6 : BC) =>
 o_lt (bI S6 2 (va_cpy (S6.1 1) (S6.1 2) (ix 0) (ix 0) (ix 3))) fun (S7 : BC) =>
 some (S7, T3)
 else
 (if r2 ≤ (S.1 0 2) then
 some (S, T3)
 else
 o_lt (bI S 0 (upd (S.1 0) 1 1)) fun (S9 : BC) =>
 o_lt (bI S9 0 (upd (S9.1 0) 2 r2)) fun (S10 : BC) =>
 o_lt (bI S10 2 (va_cpy (S10.1 1) (S10.1 2) (ix 0) (ix 0) (ix 3))) fun (S11 : BC) =>
 some (S11, T3)))
 else
 o_lp (f_X13_goes_2_L10 X N L kd nu aa x1 fu) fu ((-1), S, T))
abbrev rm_X13_goes_2 : Room := { frames := 10, cells := 0, slots := 0, locals := 233 }
set_option maxHeartbeats 4000000 in
set_option maxRecDepth 100000 in
theorem m_X13_goes_2 (l : Launch) (D : va_G) (g : Nat → ClassId) (sz : Nat) (adS : Nat → Nat) (adX : Nat → Nat) (iX : Option Nat) (adN : Nat → Nat) (adT : Nat → Nat) (fu : Nat) (S : BC) (X : BC) (N : BC) (T : BC) (L : List Nat) (kd : Nat → Nat) (nu : Nat → Int32) (aa : Nat → Int32) (x1 : Int32) (SO : BC) (TO : BC) (hf : f_X13_goes_2 fu S X N T L kd nu aa x1 = some (SO, TO)) : bMet (S := Unit) l yX13_goes (ws_ yX13_goes cX13_goes 3 none) rm_X13_goes_2 D g sz [.ref (adS 0), .int x1] [sW g adS (adX 0) S, xW g adX (adN 0) (adT 0) iX X, vW g adN N, vW g adT T, gW L kd nu aa] (fun _ => True) (fun _ => none) (fun _ => [sW g adS (adX 0) SO, xW g adX (adN 0) (adT 0) iX X, vW g adN N, vW g adT TO, gW L kd nu aa]) := by
  refine b_met (by decide) (Nat.le_of_ble_eq_true rfl) ?_
  intro p e s m args below meth c A Q ls hx hb hml hr hlk hown hname hts hE hl hW
  revert hW; generalize s.heap = H; intro hW
  have hl : lv_has ls 3 [(0, .ref (adS 0)), (1, .int x1)] := hl
  rw [f_X13_goes_2] at hf
  refine lv_iload_n hx hb dX13_goes_0 rfl (lv_at hl 1 rfl) ?_
  refine lv_aload_n hx hb dX13_goes_1 rfl (lv_at hl 0 rfl) ?_
  refine b_get hx hb hts in_X13 hown hW 0 0 13 0 rfl sW_0 rfl (by decide) ⟨rfl, rfl, rfl⟩ (hts _ q1339) sW_g0 dX13_goes_2 ?_
  refine lv_icmp_ge (tgt := 45) hx hb dX13_goes_5 (by decide) (fun c1 => ?_) (fun c1 => ?_)
  · have hf := o_t hf c1
    refine lv_aload_n hx hb dX13_goes_45 rfl (lv_at hl 0 rfl) ?_
    obtain ⟨r2, T3, hc3, hf⟩ := o_b2s hf
    have hp3 : List.Perm [sW g adS (adX 0) S, xW g adX (adN 0) (adT 0) iX X, vW g adN N, vW g adT T, gW L kd nu aa] ([sW g adS (adX 0) S, xW g adX (adN 0) (adT 0) iX X, vW g adN N, vW g adT T, gW L kd nu aa] ++ []) := b_perm [0, 1, 2, 3, 4] [] 5 rfl rfl rfl rfl
    refine b_call0 ⟨rfl, rfl⟩ (va_runV (As := []) (rest := []) ⟨hx, hb, hml, hown, hts⟩ (m_X13_brings l D g H.size adS adX iX adN adT fu S X N T L kd nu aa r2 T3 hc3) (cwV 0 hts (lw_V q1332 q1334 qs29 q109 q1335) rfl rfl rfl (by decide +kernel) ⟨Nat.le_of_ble_eq_true rfl, Nat.le_of_ble_eq_true rfl⟩) (b_preV (pp := 0) (q := 0) hW hp3 rfl sW_0 rfl) rfl rfl hl.1 rfl (lv_room (Nat.le_of_ble_eq_true rfl)) dX13_goes_46 ⟨Nat.le_of_ble_eq_true rfl, Nat.le_of_ble_eq_true rfl⟩) hW hp3 (fun _ _ H locs hW => ?_)
    have hW : bW D g A s H locs [sW g adS (adX 0) S, xW g adX (adN 0) (adT 0) iX X, vW g adN N, vW g adT T3, gW L kd nu aa] := hW
    refine lv_istore_n (lv' := [(2, .int r2), (0, .ref (adS 0)), (1, .int x1)]) hx hb dX13_goes_49 rfl hl (by decide) rfl (fun ls hl => ?_)
    refine lv_aload_n hx hb dX13_goes_50 rfl (lv_at hl 1 rfl) ?_
    refine b_get hx hb hts in_X13 hown hW 0 0 13 3 rfl sW_0 rfl (by decide) ⟨rfl, rfl, rfl⟩ (hts _ q1343) sW_g3 dX13_goes_51 ?_
    refine lv_if_eq (tgt := 65) hx hb dX13_goes_54 (by decide) (fun c4 => ?_) (fun c4 => ?_)
    · have hf := o_t hf c4
      refine lv_aload_n hx hb dX13_goes_65 rfl (lv_at hl 1 rfl) ?_
      refine lv_iconst (v := 1) hx hb dX13_goes_66 (by decide) ?_
      obtain ⟨S5, eS5, hf⟩ := o_ls hf
      refine b_put hx hb hts in_X13 tyX13 tyX13_ok nmX13 hown hW 0 0 13 3 rfl sW_0 (sW_p3 eS5) rfl rfl (by decide) ⟨rfl, rfl, rfl⟩ (hts _ q1343) rfl (ty := .boolean) rfl rfl rfl (by rw [sW_l]; decide) dX13_goes_67 (fun H locs hW => ?_)
      have hW : bW D g A s H locs [sW g adS (adX 0) S5, xW g adX (adN 0) (adT 0) iX X, vW g adN N, vW g adT T3, gW L kd nu aa] := hW
      refine lv_aload_n hx hb dX13_goes_70 rfl (lv_at hl 1 rfl) ?_
      refine lv_iload_n hx hb dX13_goes_71 rfl (lv_at hl 0 rfl) ?_
      obtain ⟨S6, eS6, hf⟩ := o_ls hf
      refine b_put hx hb hts in_X13 tyX13 tyX13_ok nmX13 hown hW 0 0 13 4 rfl sW_0 (sW_p4 eS6) rfl rfl (by decide) ⟨rfl, rfl, rfl⟩ (hts _ q1344) rfl (ty := .int) rfl rfl rfl (by rw [sW_l]; decide) dX13_goes_72 (fun H locs hW => ?_)
      have hW : bW D g A s H locs [sW g adS (adX 0) S6, xW g adX (adN 0) (adT 0) iX X, vW g adN N, vW g adT T3, gW L kd nu aa] := hW
      refine lv_aload_n hx hb dX13_goes_75 rfl (lv_at hl 1 rfl) ?_
      refine b_get hx hb hts in_X13 hown hW 0 0 13 1 rfl sW_0 rfl (by decide) ⟨rfl, rfl, rfl⟩ (hts _ q1340) sW_g1 dX13_goes_76 ?_
      refine lv_iconst (v := 0) hx hb dX13_goes_79 (by decide) ?_
      refine lv_aload_n hx hb dX13_goes_80 rfl (lv_at hl 1 rfl) ?_
      refine b_get hx hb hts in_X13 hown hW 0 0 13 2 rfl sW_0 rfl (by decide) ⟨rfl, rfl, rfl⟩ (hts _ q1341) sW_g2 dX13_goes_81 ?_
      refine lv_iconst (v := 0) hx hb dX13_goes_84 (by decide) ?_
      refine lv_iconst (v := 3) hx hb dX13_goes_85 (by decide) ?_
      obtain ⟨S7, eS7, hf⟩ := o_ls hf
      refine b_cpI hx hb (by rw [hml]; exact hl.1.symm) hown (hts _ q1338) (hts _ q469) (hts _ q468) (hts _ q90) hW 0 1 0 2 rfl sW_1 rfl sW_2 (sW_s2 eS7) rfl (by decide) (by decide) (by decide) (by decide) (by decide) (Nat.le_of_ble_eq_true rfl) (Nat.le_of_ble_eq_true rfl) dX13_goes_86 (fun H locs hW => ?_)
      have hW : bW D g A s H locs [sW g adS (adX 0) S7, xW g adX (adN 0) (adT 0) iX X, vW g adN N, vW g adT T3, gW L kd nu aa] := hW
      cases hf
      exact b_vret hx hb hr hlk hE hW () rfl trivial rfl dX13_goes_89
    · have hf := o_f hf c4
      refine lv_iload_n hx hb dX13_goes_57 rfl (lv_at hl 0 rfl) ?_
      refine lv_aload_n hx hb dX13_goes_58 rfl (lv_at hl 1 rfl) ?_
      refine b_get hx hb hts in_X13 hown hW 0 0 13 4 rfl sW_0 rfl (by decide) ⟨rfl, rfl, rfl⟩ (hts _ q1344) sW_g4 dX13_goes_59 ?_
      refine lv_icmp_le (tgt := 89) hx hb dX13_goes_62 (by decide) (fun c8 => ?_) (fun c8 => ?_)
      · have hf := o_t hf c8
        cases hf
        exact b_vret hx hb hr hlk hE hW () rfl trivial rfl dX13_goes_89
      · have hf := o_f hf c8
        refine lv_aload_n hx hb dX13_goes_65 rfl (lv_at hl 1 rfl) ?_
        refine lv_iconst (v := 1) hx hb dX13_goes_66 (by decide) ?_
        obtain ⟨S9, eS9, hf⟩ := o_ls hf
        refine b_put hx hb hts in_X13 tyX13 tyX13_ok nmX13 hown hW 0 0 13 3 rfl sW_0 (sW_p3 eS9) rfl rfl (by decide) ⟨rfl, rfl, rfl⟩ (hts _ q1343) rfl (ty := .boolean) rfl rfl rfl (by rw [sW_l]; decide) dX13_goes_67 (fun H locs hW => ?_)
        have hW : bW D g A s H locs [sW g adS (adX 0) S9, xW g adX (adN 0) (adT 0) iX X, vW g adN N, vW g adT T3, gW L kd nu aa] := hW
        refine lv_aload_n hx hb dX13_goes_70 rfl (lv_at hl 1 rfl) ?_
        refine lv_iload_n hx hb dX13_goes_71 rfl (lv_at hl 0 rfl) ?_
        obtain ⟨S10, eS10, hf⟩ := o_ls hf
        refine b_put hx hb hts in_X13 tyX13 tyX13_ok nmX13 hown hW 0 0 13 4 rfl sW_0 (sW_p4 eS10) rfl rfl (by decide) ⟨rfl, rfl, rfl⟩ (hts _ q1344) rfl (ty := .int) rfl rfl rfl (by rw [sW_l]; decide) dX13_goes_72 (fun H locs hW => ?_)
        have hW : bW D g A s H locs [sW g adS (adX 0) S10, xW g adX (adN 0) (adT 0) iX X, vW g adN N, vW g adT T3, gW L kd nu aa] := hW
        refine lv_aload_n hx hb dX13_goes_75 rfl (lv_at hl 1 rfl) ?_
        refine b_get hx hb hts in_X13 hown hW 0 0 13 1 rfl sW_0 rfl (by decide) ⟨rfl, rfl, rfl⟩ (hts _ q1340) sW_g1 dX13_goes_76 ?_
        refine lv_iconst (v := 0) hx hb dX13_goes_79 (by decide) ?_
        refine lv_aload_n hx hb dX13_goes_80 rfl (lv_at hl 1 rfl) ?_
        refine b_get hx hb hts in_X13 hown hW 0 0 13 2 rfl sW_0 rfl (by decide) ⟨rfl, rfl, rfl⟩ (hts _ q1341) sW_g2 dX13_goes_81 ?_
        refine lv_iconst (v := 0) hx hb dX13_goes_84 (by decide) ?_
        refine lv_iconst (v := 3) hx hb dX13_goes_85 (by decide) ?_
        obtain ⟨S11, eS11, hf⟩ := o_ls hf
        refine b_cpI hx hb (by rw [hml]; exact hl.1.symm) hown (hts _ q1338) (hts _ q469) (hts _ q468) (hts _ q90) hW 0 1 0 2 rfl sW_1 rfl sW_2 (sW_s2 eS11) rfl (by decide) (by decide) (by decide) (by decide) (by decide) (Nat.le_of_ble_eq_true rfl) (Nat.le_of_ble_eq_true rfl) dX13_goes_86 (fun H locs hW => ?_)
        have hW : bW D g A s H locs [sW g adS (adX 0) S11, xW g adX (adN 0) (adT 0) iX X, vW g adN N, vW g adT T3, gW L kd nu aa] := hW
        cases hf
        exact b_vret hx hb hr hlk hE hW () rfl trivial rfl dX13_goes_89
  · have hf := o_f hf c1
    refine lv_iconst (v := (-1)) hx hb dX13_goes_8 (by decide) ?_
    refine lv_istore_n (lv' := [(2, .int (-1)), (0, .ref (adS 0)), (1, .int x1)]) hx hb dX13_goes_9 rfl hl (by decide) rfl (fun ls hl => ?_)
    obtain ⟨stp12, est12, hf⟩ := o_ln hf
    have L12 : ∀ (n : Nat) (v13 : Int32) (S14 : BC) (T15 : BC) (H : Heap) (locs : List Loc) (ls : Array Slot), bW D g A s H locs [sW g adS (adX 0) S14, xW g adX (adN 0) (adT 0) iX X, vW g adN N, vW g adT T15, gW L kd nu aa] → lv_has ls 3 [(2, .int v13), (0, .ref (adS 0)), (1, .int x1)] → o_lp stp12 n (v13, S14, T15) = some (SO, TO) → W p l e rm_X13_goes_2 s m args below meth c H locs 0 0 Q (F0 m 10 ls []) := by
      intro n12
      induction n12 with
      | zero => intro v13 S14 T15 H locs ls hW hl hf; exact (o_lz hf).elim
      | succ n12 ih12 =>
        intro v13 S14 T15 H locs ls hW hl hf
        have hf := o_lu est12 hf
        rw [f_X13_goes_2_L10] at hf
        refine lv_iload_n hx hb dX13_goes_10 rfl (lv_at hl 0 rfl) ?_
        refine lv_aload_n hx hb dX13_goes_11 rfl (lv_at hl 1 rfl) ?_
        refine b_get hx hb hts in_X13 hown hW 0 0 13 5 rfl sW_0 rfl (by decide) ⟨rfl, rfl, rfl⟩ (hts _ q1346) sW_g5 dX13_goes_12 ?_
        refine b_getN hx hb hts in_X0 hown hW 1 0 0 0 rfl xW_0 rfl (by decide) ⟨rfl, rfl, rfl⟩ (va_Nw.use rfl (hW.2.2.2.2.2.2.1 _ (List.mem_of_getElem? (i := 0) rfl))) xW_g0 dX13_goes_15 ?_
        refine b_get hx hb hts in_X1 hown hW 2 0 1 12 rfl vW_0 rfl (by decide) ⟨rfl, rfl, rfl⟩ (hts _ q164) vW_g12 dX13_goes_18 ?_
        refine lv_icmp_ge (tgt := 44) hx hb dX13_goes_21 (by decide) (fun c16 => ?_) (fun c16 => ?_)
        · have hf := o_t hf c16
          cases hf
          exact b_vret hx hb hr hlk hE hW () rfl trivial rfl dX13_goes_44
        · have hf := o_f hf c16
          refine lv_aload_n hx hb dX13_goes_24 rfl (lv_at hl 1 rfl) ?_
          refine b_get hx hb hts in_X13 hown hW 0 0 13 1 rfl sW_0 rfl (by decide) ⟨rfl, rfl, rfl⟩ (hts _ q1340) sW_g1 dX13_goes_25 ?_
          refine lv_iload_n hx hb dX13_goes_28 rfl (lv_at hl 2 rfl) ?_
          refine lv_iload_n hx hb dX13_goes_29 rfl (lv_at hl 0 rfl) ?_
          obtain ⟨h17, hf⟩ := o_cs hf
          obtain ⟨S18, eS18, hf⟩ := o_ls hf
          refine b_iast hx hb hW 0 1 rfl sW_1 (sW_s1 eS18) rfl h17 dX13_goes_30 (fun H locs hW => ?_)
          have hW : bW D g A s H locs [sW g adS (adX 0) S18, xW g adX (adN 0) (adT 0) iX X, vW g adN N, vW g adT T15, gW L kd nu aa] := hW
          refine lv_aload_n hx hb dX13_goes_31 rfl (lv_at hl 1 rfl) ?_
          refine lv_iload_n hx hb dX13_goes_32 rfl (lv_at hl 2 rfl) ?_
          refine lv_iconst (v := 1) hx hb dX13_goes_33 (by decide) ?_
          refine lv_iadd hx hb dX13_goes_34 ?_
          obtain ⟨S19, T20, hc20, hf⟩ := o_b2s hf
          have hp20 : List.Perm [sW g adS (adX 0) S18, xW g adX (adN 0) (adT 0) iX X, vW g adN N, vW g adT T15, gW L kd nu aa] ([sW g adS (adX 0) S18, xW g adX (adN 0) (adT 0) iX X, vW g adN N, vW g adT T15, gW L kd nu aa] ++ []) := b_perm [0, 1, 2, 3, 4] [] 5 rfl rfl rfl rfl
          refine b_call0 ⟨rfl, rfl⟩ (va_runV (As := [.int (x1 + 1)]) (rest := []) ⟨hx, hb, hml, hown, hts⟩ (m_X13_goes_3 l D g H.size adS adX iX adN adT fu S18 X N T15 L kd nu aa (x1 + 1) S19 T20 hc20) (cwV 1 hts (lw_V q1328 q1330 qs28 q109 q1331) rfl rfl rfl (by decide +kernel) ⟨Nat.le_of_ble_eq_true rfl, Nat.le_of_ble_eq_true rfl⟩) (b_preV (pp := 0) (q := 0) hW hp20 rfl sW_0 rfl) rfl rfl hl.1 rfl (lv_room (Nat.le_of_ble_eq_true rfl)) dX13_goes_35 ⟨Nat.le_of_ble_eq_true rfl, Nat.le_of_ble_eq_true rfl⟩) hW hp20 (fun _ _ H locs hW => ?_)
          have hW : bW D g A s H locs [sW g adS (adX 0) S19, xW g adX (adN 0) (adT 0) iX X, vW g adN N, vW g adT T20, gW L kd nu aa] := hW
          obtain ⟨v21, ev21, hf⟩ := o_ls hf
          refine lv_iinc (v := v21) (lv' := [(2, .int v21), (0, .ref (adS 0)), (1, .int x1)]) hx hb dX13_goes_38 hl (k := 0) rfl ev21 (by decide) rfl (fun ls hl => ?_)
          refine lv_goto (tgt := 10) hx hb dX13_goes_41 (by decide) ?_
          exact ih12 _ _ _ _ _ _ hW (lv_sub hl [0, 1, 2] rfl) hf
    exact L12 _ _ _ _ _ _ _ hW (lv_sub hl [0, 1, 2] rfl) hf
def f_X13_goes_1_L10 (X : BC) (N : BC) (L : List Nat) (kd : Nat → Nat) (nu : Nat → Int32) (aa : Nat → Int32) (x1 : Int32) (fu : Nat) (rec12 : (Int32 × BC × BC) → Option (BC × BC)) : Int32 × BC × BC → Option (BC × BC)
  | (v13, S14, T15) =>
    (if (N.1 0 0) ≤ v13 then
     some (S14, T15)
     else
     o_ck (inB x1 3) (o_lt (bI S14 1 (upd (S14.1 1) (ix x1) v13)) fun (S18 : BC) =>
     o_b2 (f_X13_goes_2 fu S18 X N T15 L kd nu aa (x1 + 1)) fun (S19 : BC) (T20 : BC) =>
     o_lt (v13 + 1) fun (v21 : Int32) =>
     rec12 (v21, S19, T20)))
def f_X13_goes_1 (fu : Nat) (S : BC) (X : BC) (N : BC) (T : BC) (L : List Nat) (kd : Nat → Nat) (nu : Nat → Int32) (aa : Nat → Int32) (x1 : Int32) : Option (BC × BC) :=
 (if (S.1 0 0) ≤ x1 then
 o_b2 (f_X13_brings fu S X N T L kd nu aa) fun (r2 : Int32) (T3 : BC) =>
 (if (S.1 0 1) = 0 then
 o_lt (bI S 0 (upd (S.1 0) 1 1)) fun (S5 : BC) =>
 o_lt (bI S5 0 (upd (S5.1 0) 2 r2)) fun (S6 : BC) =>
 o_lt (bI S6 2 (va_cpy (S6.1 1) (S6.1 2) (ix 0) (ix 0) (ix 3))) fun (S7 : BC) =>
 some (S7, T3)
 else
 (if r2 ≤ (S.1 0 2) then
 some (S, T3)
 else
 o_lt (bI S 0 (upd (S.1 0) 1 1)) fun (S9 : BC) =>
 o_lt (bI S9 0 (upd (S9.1 0) 2 r2)) fun (S10 : BC) =>
 o_lt (bI S10 2 (va_cpy (S10.1 1) (S10.1 2) (ix 0) (ix 0) (ix 3))) fun (S11 : BC) =>
 some (S11, T3)))
 else
 o_lp (f_X13_goes_1_L10 X N L kd nu aa x1 fu) fu ((-1), S, T))
abbrev rm_X13_goes_1 : Room := { frames := 11, cells := 0, slots := 0, locals := 255 }
set_option maxHeartbeats 4000000 in
set_option maxRecDepth 100000 in
theorem m_X13_goes_1 (l : Launch) (D : va_G) (g : Nat → ClassId) (sz : Nat) (adS : Nat → Nat) (adX : Nat → Nat) (iX : Option Nat) (adN : Nat → Nat) (adT : Nat → Nat) (fu : Nat) (S : BC) (X : BC) (N : BC) (T : BC) (L : List Nat) (kd : Nat → Nat) (nu : Nat → Int32) (aa : Nat → Int32) (x1 : Int32) (SO : BC) (TO : BC) (hf : f_X13_goes_1 fu S X N T L kd nu aa x1 = some (SO, TO)) : bMet (S := Unit) l yX13_goes (ws_ yX13_goes cX13_goes 3 none) rm_X13_goes_1 D g sz [.ref (adS 0), .int x1] [sW g adS (adX 0) S, xW g adX (adN 0) (adT 0) iX X, vW g adN N, vW g adT T, gW L kd nu aa] (fun _ => True) (fun _ => none) (fun _ => [sW g adS (adX 0) SO, xW g adX (adN 0) (adT 0) iX X, vW g adN N, vW g adT TO, gW L kd nu aa]) := by
  refine b_met (by decide) (Nat.le_of_ble_eq_true rfl) ?_
  intro p e s m args below meth c A Q ls hx hb hml hr hlk hown hname hts hE hl hW
  revert hW; generalize s.heap = H; intro hW
  have hl : lv_has ls 3 [(0, .ref (adS 0)), (1, .int x1)] := hl
  rw [f_X13_goes_1] at hf
  refine lv_iload_n hx hb dX13_goes_0 rfl (lv_at hl 1 rfl) ?_
  refine lv_aload_n hx hb dX13_goes_1 rfl (lv_at hl 0 rfl) ?_
  refine b_get hx hb hts in_X13 hown hW 0 0 13 0 rfl sW_0 rfl (by decide) ⟨rfl, rfl, rfl⟩ (hts _ q1339) sW_g0 dX13_goes_2 ?_
  refine lv_icmp_ge (tgt := 45) hx hb dX13_goes_5 (by decide) (fun c1 => ?_) (fun c1 => ?_)
  · have hf := o_t hf c1
    refine lv_aload_n hx hb dX13_goes_45 rfl (lv_at hl 0 rfl) ?_
    obtain ⟨r2, T3, hc3, hf⟩ := o_b2s hf
    have hp3 : List.Perm [sW g adS (adX 0) S, xW g adX (adN 0) (adT 0) iX X, vW g adN N, vW g adT T, gW L kd nu aa] ([sW g adS (adX 0) S, xW g adX (adN 0) (adT 0) iX X, vW g adN N, vW g adT T, gW L kd nu aa] ++ []) := b_perm [0, 1, 2, 3, 4] [] 5 rfl rfl rfl rfl
    refine b_call0 ⟨rfl, rfl⟩ (va_runV (As := []) (rest := []) ⟨hx, hb, hml, hown, hts⟩ (m_X13_brings l D g H.size adS adX iX adN adT fu S X N T L kd nu aa r2 T3 hc3) (cwV 0 hts (lw_V q1332 q1334 qs29 q109 q1335) rfl rfl rfl (by decide +kernel) ⟨Nat.le_of_ble_eq_true rfl, Nat.le_of_ble_eq_true rfl⟩) (b_preV (pp := 0) (q := 0) hW hp3 rfl sW_0 rfl) rfl rfl hl.1 rfl (lv_room (Nat.le_of_ble_eq_true rfl)) dX13_goes_46 ⟨Nat.le_of_ble_eq_true rfl, Nat.le_of_ble_eq_true rfl⟩) hW hp3 (fun _ _ H locs hW => ?_)
    have hW : bW D g A s H locs [sW g adS (adX 0) S, xW g adX (adN 0) (adT 0) iX X, vW g adN N, vW g adT T3, gW L kd nu aa] := hW
    refine lv_istore_n (lv' := [(2, .int r2), (0, .ref (adS 0)), (1, .int x1)]) hx hb dX13_goes_49 rfl hl (by decide) rfl (fun ls hl => ?_)
    refine lv_aload_n hx hb dX13_goes_50 rfl (lv_at hl 1 rfl) ?_
    refine b_get hx hb hts in_X13 hown hW 0 0 13 3 rfl sW_0 rfl (by decide) ⟨rfl, rfl, rfl⟩ (hts _ q1343) sW_g3 dX13_goes_51 ?_
    refine lv_if_eq (tgt := 65) hx hb dX13_goes_54 (by decide) (fun c4 => ?_) (fun c4 => ?_)
    · have hf := o_t hf c4
      refine lv_aload_n hx hb dX13_goes_65 rfl (lv_at hl 1 rfl) ?_
      refine lv_iconst (v := 1) hx hb dX13_goes_66 (by decide) ?_
      obtain ⟨S5, eS5, hf⟩ := o_ls hf
      refine b_put hx hb hts in_X13 tyX13 tyX13_ok nmX13 hown hW 0 0 13 3 rfl sW_0 (sW_p3 eS5) rfl rfl (by decide) ⟨rfl, rfl, rfl⟩ (hts _ q1343) rfl (ty := .boolean) rfl rfl rfl (by rw [sW_l]; decide) dX13_goes_67 (fun H locs hW => ?_)
      have hW : bW D g A s H locs [sW g adS (adX 0) S5, xW g adX (adN 0) (adT 0) iX X, vW g adN N, vW g adT T3, gW L kd nu aa] := hW
      refine lv_aload_n hx hb dX13_goes_70 rfl (lv_at hl 1 rfl) ?_
      refine lv_iload_n hx hb dX13_goes_71 rfl (lv_at hl 0 rfl) ?_
      obtain ⟨S6, eS6, hf⟩ := o_ls hf
      refine b_put hx hb hts in_X13 tyX13 tyX13_ok nmX13 hown hW 0 0 13 4 rfl sW_0 (sW_p4 eS6) rfl rfl (by decide) ⟨rfl, rfl, rfl⟩ (hts _ q1344) rfl (ty := .int) rfl rfl rfl (by rw [sW_l]; decide) dX13_goes_72 (fun H locs hW => ?_)
      have hW : bW D g A s H locs [sW g adS (adX 0) S6, xW g adX (adN 0) (adT 0) iX X, vW g adN N, vW g adT T3, gW L kd nu aa] := hW
      refine lv_aload_n hx hb dX13_goes_75 rfl (lv_at hl 1 rfl) ?_
      refine b_get hx hb hts in_X13 hown hW 0 0 13 1 rfl sW_0 rfl (by decide) ⟨rfl, rfl, rfl⟩ (hts _ q1340) sW_g1 dX13_goes_76 ?_
      refine lv_iconst (v := 0) hx hb dX13_goes_79 (by decide) ?_
      refine lv_aload_n hx hb dX13_goes_80 rfl (lv_at hl 1 rfl) ?_
      refine b_get hx hb hts in_X13 hown hW 0 0 13 2 rfl sW_0 rfl (by decide) ⟨rfl, rfl, rfl⟩ (hts _ q1341) sW_g2 dX13_goes_81 ?_
      refine lv_iconst (v := 0) hx hb dX13_goes_84 (by decide) ?_
      refine lv_iconst (v := 3) hx hb dX13_goes_85 (by decide) ?_
      obtain ⟨S7, eS7, hf⟩ := o_ls hf
      refine b_cpI hx hb (by rw [hml]; exact hl.1.symm) hown (hts _ q1338) (hts _ q469) (hts _ q468) (hts _ q90) hW 0 1 0 2 rfl sW_1 rfl sW_2 (sW_s2 eS7) rfl (by decide) (by decide) (by decide) (by decide) (by decide) (Nat.le_of_ble_eq_true rfl) (Nat.le_of_ble_eq_true rfl) dX13_goes_86 (fun H locs hW => ?_)
      have hW : bW D g A s H locs [sW g adS (adX 0) S7, xW g adX (adN 0) (adT 0) iX X, vW g adN N, vW g adT T3, gW L kd nu aa] := hW
      cases hf
      exact b_vret hx hb hr hlk hE hW () rfl trivial rfl dX13_goes_89
    · have hf := o_f hf c4
      refine lv_iload_n hx hb dX13_goes_57 rfl (lv_at hl 0 rfl) ?_
      refine lv_aload_n hx hb dX13_goes_58 rfl (lv_at hl 1 rfl) ?_
      refine b_get hx hb hts in_X13 hown hW 0 0 13 4 rfl sW_0 rfl (by decide) ⟨rfl, rfl, rfl⟩ (hts _ q1344) sW_g4 dX13_goes_59 ?_
      refine lv_icmp_le (tgt := 89) hx hb dX13_goes_62 (by decide) (fun c8 => ?_) (fun c8 => ?_)
      · have hf := o_t hf c8
        cases hf
        exact b_vret hx hb hr hlk hE hW () rfl trivial rfl dX13_goes_89
      · have hf := o_f hf c8
        refine lv_aload_n hx hb dX13_goes_65 rfl (lv_at hl 1 rfl) ?_
        refine lv_iconst (v := 1) hx hb dX13_goes_66 (by decide) ?_
        obtain ⟨S9, eS9, hf⟩ := o_ls hf
        refine b_put hx hb hts in_X13 tyX13 tyX13_ok nmX13 hown hW 0 0 13 3 rfl sW_0 (sW_p3 eS9) rfl rfl (by decide) ⟨rfl, rfl, rfl⟩ (hts _ q1343) rfl (ty := .boolean) rfl rfl rfl (by rw [sW_l]; decide) dX13_goes_67 (fun H locs hW => ?_)
        have hW : bW D g A s H locs [sW g adS (adX 0) S9, xW g adX (adN 0) (adT 0) iX X, vW g adN N, vW g adT T3, gW L kd nu aa] := hW
        refine lv_aload_n hx hb dX13_goes_70 rfl (lv_at hl 1 rfl) ?_
        refine lv_iload_n hx hb dX13_goes_71 rfl (lv_at hl 0 rfl) ?_
        obtain ⟨S10, eS10, hf⟩ := o_ls hf
        refine b_put hx hb hts in_X13 tyX13 tyX13_ok nmX13 hown hW 0 0 13 4 rfl sW_0 (sW_p4 eS10) rfl rfl (by decide) ⟨rfl, rfl, rfl⟩ (hts _ q1344) rfl (ty := .int) rfl rfl rfl (by rw [sW_l]; decide) dX13_goes_72 (fun H locs hW => ?_)
        have hW : bW D g A s H locs [sW g adS (adX 0) S10, xW g adX (adN 0) (adT 0) iX X, vW g adN N, vW g adT T3, gW L kd nu aa] := hW
        refine lv_aload_n hx hb dX13_goes_75 rfl (lv_at hl 1 rfl) ?_
        refine b_get hx hb hts in_X13 hown hW 0 0 13 1 rfl sW_0 rfl (by decide) ⟨rfl, rfl, rfl⟩ (hts _ q1340) sW_g1 dX13_goes_76 ?_
        refine lv_iconst (v := 0) hx hb dX13_goes_79 (by decide) ?_
        refine lv_aload_n hx hb dX13_goes_80 rfl (lv_at hl 1 rfl) ?_
        refine b_get hx hb hts in_X13 hown hW 0 0 13 2 rfl sW_0 rfl (by decide) ⟨rfl, rfl, rfl⟩ (hts _ q1341) sW_g2 dX13_goes_81 ?_
        refine lv_iconst (v := 0) hx hb dX13_goes_84 (by decide) ?_
        refine lv_iconst (v := 3) hx hb dX13_goes_85 (by decide) ?_
        obtain ⟨S11, eS11, hf⟩ := o_ls hf
        refine b_cpI hx hb (by rw [hml]; exact hl.1.symm) hown (hts _ q1338) (hts _ q469) (hts _ q468) (hts _ q90) hW 0 1 0 2 rfl sW_1 rfl sW_2 (sW_s2 eS11) rfl (by decide) (by decide) (by decide) (by decide) (by decide) (Nat.le_of_ble_eq_true rfl) (Nat.le_of_ble_eq_true rfl) dX13_goes_86 (fun H locs hW => ?_)
        have hW : bW D g A s H locs [sW g adS (adX 0) S11, xW g adX (adN 0) (adT 0) iX X, vW g adN N, vW g adT T3, gW L kd nu aa] := hW
        cases hf
        exact b_vret hx hb hr hlk hE hW () rfl trivial rfl dX13_goes_89
  · have hf := o_f hf c1
    refine lv_iconst (v := (-1)) hx hb dX13_goes_8 (by decide) ?_
    refine lv_istore_n (lv' := [(2, .int (-1)), (0, .ref (adS 0)), (1, .int x1)]) hx hb dX13_goes_9 rfl hl (by decide) rfl (fun ls hl => ?_)
    obtain ⟨stp12, est12, hf⟩ := o_ln hf
    have L12 : ∀ (n : Nat) (v13 : Int32) (S14 : BC) (T15 : BC) (H : Heap) (locs : List Loc) (ls : Array Slot), bW D g A s H locs [sW g adS (adX 0) S14, xW g adX (adN 0) (adT 0) iX X, vW g adN N, vW g adT T15, gW L kd nu aa] → lv_has ls 3 [(2, .int v13), (0, .ref (adS 0)), (1, .int x1)] → o_lp stp12 n (v13, S14, T15) = some (SO, TO) → W p l e rm_X13_goes_1 s m args below meth c H locs 0 0 Q (F0 m 10 ls []) := by
      intro n12
      induction n12 with
      | zero => intro v13 S14 T15 H locs ls hW hl hf; exact (o_lz hf).elim
      | succ n12 ih12 =>
        intro v13 S14 T15 H locs ls hW hl hf
        have hf := o_lu est12 hf
        rw [f_X13_goes_1_L10] at hf
        refine lv_iload_n hx hb dX13_goes_10 rfl (lv_at hl 0 rfl) ?_
        refine lv_aload_n hx hb dX13_goes_11 rfl (lv_at hl 1 rfl) ?_
        refine b_get hx hb hts in_X13 hown hW 0 0 13 5 rfl sW_0 rfl (by decide) ⟨rfl, rfl, rfl⟩ (hts _ q1346) sW_g5 dX13_goes_12 ?_
        refine b_getN hx hb hts in_X0 hown hW 1 0 0 0 rfl xW_0 rfl (by decide) ⟨rfl, rfl, rfl⟩ (va_Nw.use rfl (hW.2.2.2.2.2.2.1 _ (List.mem_of_getElem? (i := 0) rfl))) xW_g0 dX13_goes_15 ?_
        refine b_get hx hb hts in_X1 hown hW 2 0 1 12 rfl vW_0 rfl (by decide) ⟨rfl, rfl, rfl⟩ (hts _ q164) vW_g12 dX13_goes_18 ?_
        refine lv_icmp_ge (tgt := 44) hx hb dX13_goes_21 (by decide) (fun c16 => ?_) (fun c16 => ?_)
        · have hf := o_t hf c16
          cases hf
          exact b_vret hx hb hr hlk hE hW () rfl trivial rfl dX13_goes_44
        · have hf := o_f hf c16
          refine lv_aload_n hx hb dX13_goes_24 rfl (lv_at hl 1 rfl) ?_
          refine b_get hx hb hts in_X13 hown hW 0 0 13 1 rfl sW_0 rfl (by decide) ⟨rfl, rfl, rfl⟩ (hts _ q1340) sW_g1 dX13_goes_25 ?_
          refine lv_iload_n hx hb dX13_goes_28 rfl (lv_at hl 2 rfl) ?_
          refine lv_iload_n hx hb dX13_goes_29 rfl (lv_at hl 0 rfl) ?_
          obtain ⟨h17, hf⟩ := o_cs hf
          obtain ⟨S18, eS18, hf⟩ := o_ls hf
          refine b_iast hx hb hW 0 1 rfl sW_1 (sW_s1 eS18) rfl h17 dX13_goes_30 (fun H locs hW => ?_)
          have hW : bW D g A s H locs [sW g adS (adX 0) S18, xW g adX (adN 0) (adT 0) iX X, vW g adN N, vW g adT T15, gW L kd nu aa] := hW
          refine lv_aload_n hx hb dX13_goes_31 rfl (lv_at hl 1 rfl) ?_
          refine lv_iload_n hx hb dX13_goes_32 rfl (lv_at hl 2 rfl) ?_
          refine lv_iconst (v := 1) hx hb dX13_goes_33 (by decide) ?_
          refine lv_iadd hx hb dX13_goes_34 ?_
          obtain ⟨S19, T20, hc20, hf⟩ := o_b2s hf
          have hp20 : List.Perm [sW g adS (adX 0) S18, xW g adX (adN 0) (adT 0) iX X, vW g adN N, vW g adT T15, gW L kd nu aa] ([sW g adS (adX 0) S18, xW g adX (adN 0) (adT 0) iX X, vW g adN N, vW g adT T15, gW L kd nu aa] ++ []) := b_perm [0, 1, 2, 3, 4] [] 5 rfl rfl rfl rfl
          refine b_call0 ⟨rfl, rfl⟩ (va_runV (As := [.int (x1 + 1)]) (rest := []) ⟨hx, hb, hml, hown, hts⟩ (m_X13_goes_2 l D g H.size adS adX iX adN adT fu S18 X N T15 L kd nu aa (x1 + 1) S19 T20 hc20) (cwV 1 hts (lw_V q1328 q1330 qs28 q109 q1331) rfl rfl rfl (by decide +kernel) ⟨Nat.le_of_ble_eq_true rfl, Nat.le_of_ble_eq_true rfl⟩) (b_preV (pp := 0) (q := 0) hW hp20 rfl sW_0 rfl) rfl rfl hl.1 rfl (lv_room (Nat.le_of_ble_eq_true rfl)) dX13_goes_35 ⟨Nat.le_of_ble_eq_true rfl, Nat.le_of_ble_eq_true rfl⟩) hW hp20 (fun _ _ H locs hW => ?_)
          have hW : bW D g A s H locs [sW g adS (adX 0) S19, xW g adX (adN 0) (adT 0) iX X, vW g adN N, vW g adT T20, gW L kd nu aa] := hW
          obtain ⟨v21, ev21, hf⟩ := o_ls hf
          refine lv_iinc (v := v21) (lv' := [(2, .int v21), (0, .ref (adS 0)), (1, .int x1)]) hx hb dX13_goes_38 hl (k := 0) rfl ev21 (by decide) rfl (fun ls hl => ?_)
          refine lv_goto (tgt := 10) hx hb dX13_goes_41 (by decide) ?_
          exact ih12 _ _ _ _ _ _ hW (lv_sub hl [0, 1, 2] rfl) hf
    exact L12 _ _ _ _ _ _ _ hW (lv_sub hl [0, 1, 2] rfl) hf
def f_X13_goes_0_L10 (X : BC) (N : BC) (L : List Nat) (kd : Nat → Nat) (nu : Nat → Int32) (aa : Nat → Int32) (x1 : Int32) (fu : Nat) (rec12 : (Int32 × BC × BC) → Option (BC × BC)) : Int32 × BC × BC → Option (BC × BC)
  | (v13, S14, T15) =>
    (if (N.1 0 0) ≤ v13 then
     some (S14, T15)
     else
     o_ck (inB x1 3) (o_lt (bI S14 1 (upd (S14.1 1) (ix x1) v13)) fun (S18 : BC) =>
     o_b2 (f_X13_goes_1 fu S18 X N T15 L kd nu aa (x1 + 1)) fun (S19 : BC) (T20 : BC) =>
     o_lt (v13 + 1) fun (v21 : Int32) =>
     rec12 (v21, S19, T20)))
def f_X13_goes_0 (fu : Nat) (S : BC) (X : BC) (N : BC) (T : BC) (L : List Nat) (kd : Nat → Nat) (nu : Nat → Int32) (aa : Nat → Int32) (x1 : Int32) : Option (BC × BC) :=
 (if (S.1 0 0) ≤ x1 then
 o_b2 (f_X13_brings fu S X N T L kd nu aa) fun (r2 : Int32) (T3 : BC) =>
 (if (S.1 0 1) = 0 then
 o_lt (bI S 0 (upd (S.1 0) 1 1)) fun (S5 : BC) =>
 o_lt (bI S5 0 (upd (S5.1 0) 2 r2)) fun (S6 : BC) =>
 o_lt (bI S6 2 (va_cpy (S6.1 1) (S6.1 2) (ix 0) (ix 0) (ix 3))) fun (S7 : BC) =>
 some (S7, T3)
 else
 (if r2 ≤ (S.1 0 2) then
 some (S, T3)
 else
 o_lt (bI S 0 (upd (S.1 0) 1 1)) fun (S9 : BC) =>
 o_lt (bI S9 0 (upd (S9.1 0) 2 r2)) fun (S10 : BC) =>
 o_lt (bI S10 2 (va_cpy (S10.1 1) (S10.1 2) (ix 0) (ix 0) (ix 3))) fun (S11 : BC) =>
 some (S11, T3)))
 else
 o_lp (f_X13_goes_0_L10 X N L kd nu aa x1 fu) fu ((-1), S, T))
abbrev rm_X13_goes_0 : Room := { frames := 12, cells := 0, slots := 0, locals := 277 }
set_option maxHeartbeats 4000000 in
set_option maxRecDepth 100000 in
theorem m_X13_goes_0 (l : Launch) (D : va_G) (g : Nat → ClassId) (sz : Nat) (adS : Nat → Nat) (adX : Nat → Nat) (iX : Option Nat) (adN : Nat → Nat) (adT : Nat → Nat) (fu : Nat) (S : BC) (X : BC) (N : BC) (T : BC) (L : List Nat) (kd : Nat → Nat) (nu : Nat → Int32) (aa : Nat → Int32) (x1 : Int32) (SO : BC) (TO : BC) (hf : f_X13_goes_0 fu S X N T L kd nu aa x1 = some (SO, TO)) : bMet (S := Unit) l yX13_goes (ws_ yX13_goes cX13_goes 3 none) rm_X13_goes_0 D g sz [.ref (adS 0), .int x1] [sW g adS (adX 0) S, xW g adX (adN 0) (adT 0) iX X, vW g adN N, vW g adT T, gW L kd nu aa] (fun _ => True) (fun _ => none) (fun _ => [sW g adS (adX 0) SO, xW g adX (adN 0) (adT 0) iX X, vW g adN N, vW g adT TO, gW L kd nu aa]) := by
  refine b_met (by decide) (Nat.le_of_ble_eq_true rfl) ?_
  intro p e s m args below meth c A Q ls hx hb hml hr hlk hown hname hts hE hl hW
  revert hW; generalize s.heap = H; intro hW
  have hl : lv_has ls 3 [(0, .ref (adS 0)), (1, .int x1)] := hl
  rw [f_X13_goes_0] at hf
  refine lv_iload_n hx hb dX13_goes_0 rfl (lv_at hl 1 rfl) ?_
  refine lv_aload_n hx hb dX13_goes_1 rfl (lv_at hl 0 rfl) ?_
  refine b_get hx hb hts in_X13 hown hW 0 0 13 0 rfl sW_0 rfl (by decide) ⟨rfl, rfl, rfl⟩ (hts _ q1339) sW_g0 dX13_goes_2 ?_
  refine lv_icmp_ge (tgt := 45) hx hb dX13_goes_5 (by decide) (fun c1 => ?_) (fun c1 => ?_)
  · have hf := o_t hf c1
    refine lv_aload_n hx hb dX13_goes_45 rfl (lv_at hl 0 rfl) ?_
    obtain ⟨r2, T3, hc3, hf⟩ := o_b2s hf
    have hp3 : List.Perm [sW g adS (adX 0) S, xW g adX (adN 0) (adT 0) iX X, vW g adN N, vW g adT T, gW L kd nu aa] ([sW g adS (adX 0) S, xW g adX (adN 0) (adT 0) iX X, vW g adN N, vW g adT T, gW L kd nu aa] ++ []) := b_perm [0, 1, 2, 3, 4] [] 5 rfl rfl rfl rfl
    refine b_call0 ⟨rfl, rfl⟩ (va_runV (As := []) (rest := []) ⟨hx, hb, hml, hown, hts⟩ (m_X13_brings l D g H.size adS adX iX adN adT fu S X N T L kd nu aa r2 T3 hc3) (cwV 0 hts (lw_V q1332 q1334 qs29 q109 q1335) rfl rfl rfl (by decide +kernel) ⟨Nat.le_of_ble_eq_true rfl, Nat.le_of_ble_eq_true rfl⟩) (b_preV (pp := 0) (q := 0) hW hp3 rfl sW_0 rfl) rfl rfl hl.1 rfl (lv_room (Nat.le_of_ble_eq_true rfl)) dX13_goes_46 ⟨Nat.le_of_ble_eq_true rfl, Nat.le_of_ble_eq_true rfl⟩) hW hp3 (fun _ _ H locs hW => ?_)
    have hW : bW D g A s H locs [sW g adS (adX 0) S, xW g adX (adN 0) (adT 0) iX X, vW g adN N, vW g adT T3, gW L kd nu aa] := hW
    refine lv_istore_n (lv' := [(2, .int r2), (0, .ref (adS 0)), (1, .int x1)]) hx hb dX13_goes_49 rfl hl (by decide) rfl (fun ls hl => ?_)
    refine lv_aload_n hx hb dX13_goes_50 rfl (lv_at hl 1 rfl) ?_
    refine b_get hx hb hts in_X13 hown hW 0 0 13 3 rfl sW_0 rfl (by decide) ⟨rfl, rfl, rfl⟩ (hts _ q1343) sW_g3 dX13_goes_51 ?_
    refine lv_if_eq (tgt := 65) hx hb dX13_goes_54 (by decide) (fun c4 => ?_) (fun c4 => ?_)
    · have hf := o_t hf c4
      refine lv_aload_n hx hb dX13_goes_65 rfl (lv_at hl 1 rfl) ?_
      refine lv_iconst (v := 1) hx hb dX13_goes_66 (by decide) ?_
      obtain ⟨S5, eS5, hf⟩ := o_ls hf
      refine b_put hx hb hts in_X13 tyX13 tyX13_ok nmX13 hown hW 0 0 13 3 rfl sW_0 (sW_p3 eS5) rfl rfl (by decide) ⟨rfl, rfl, rfl⟩ (hts _ q1343) rfl (ty := .boolean) rfl rfl rfl (by rw [sW_l]; decide) dX13_goes_67 (fun H locs hW => ?_)
      have hW : bW D g A s H locs [sW g adS (adX 0) S5, xW g adX (adN 0) (adT 0) iX X, vW g adN N, vW g adT T3, gW L kd nu aa] := hW
      refine lv_aload_n hx hb dX13_goes_70 rfl (lv_at hl 1 rfl) ?_
      refine lv_iload_n hx hb dX13_goes_71 rfl (lv_at hl 0 rfl) ?_
      obtain ⟨S6, eS6, hf⟩ := o_ls hf
      refine b_put hx hb hts in_X13 tyX13 tyX13_ok nmX13 hown hW 0 0 13 4 rfl sW_0 (sW_p4 eS6) rfl rfl (by decide) ⟨rfl, rfl, rfl⟩ (hts _ q1344) rfl (ty := .int) rfl rfl rfl (by rw [sW_l]; decide) dX13_goes_72 (fun H locs hW => ?_)
      have hW : bW D g A s H locs [sW g adS (adX 0) S6, xW g adX (adN 0) (adT 0) iX X, vW g adN N, vW g adT T3, gW L kd nu aa] := hW
      refine lv_aload_n hx hb dX13_goes_75 rfl (lv_at hl 1 rfl) ?_
      refine b_get hx hb hts in_X13 hown hW 0 0 13 1 rfl sW_0 rfl (by decide) ⟨rfl, rfl, rfl⟩ (hts _ q1340) sW_g1 dX13_goes_76 ?_
      refine lv_iconst (v := 0) hx hb dX13_goes_79 (by decide) ?_
      refine lv_aload_n hx hb dX13_goes_80 rfl (lv_at hl 1 rfl) ?_
      refine b_get hx hb hts in_X13 hown hW 0 0 13 2 rfl sW_0 rfl (by decide) ⟨rfl, rfl, rfl⟩ (hts _ q1341) sW_g2 dX13_goes_81 ?_
      refine lv_iconst (v := 0) hx hb dX13_goes_84 (by decide) ?_
      refine lv_iconst (v := 3) hx hb dX13_goes_85 (by decide) ?_
      obtain ⟨S7, eS7, hf⟩ := o_ls hf
      refine b_cpI hx hb (by rw [hml]; exact hl.1.symm) hown (hts _ q1338) (hts _ q469) (hts _ q468) (hts _ q90) hW 0 1 0 2 rfl sW_1 rfl sW_2 (sW_s2 eS7) rfl (by decide) (by decide) (by decide) (by decide) (by decide) (Nat.le_of_ble_eq_true rfl) (Nat.le_of_ble_eq_true rfl) dX13_goes_86 (fun H locs hW => ?_)
      have hW : bW D g A s H locs [sW g adS (adX 0) S7, xW g adX (adN 0) (adT 0) iX X, vW g adN N, vW g adT T3, gW L kd nu aa] := hW
      cases hf
      exact b_vret hx hb hr hlk hE hW () rfl trivial rfl dX13_goes_89
    · have hf := o_f hf c4
      refine lv_iload_n hx hb dX13_goes_57 rfl (lv_at hl 0 rfl) ?_
      refine lv_aload_n hx hb dX13_goes_58 rfl (lv_at hl 1 rfl) ?_
      refine b_get hx hb hts in_X13 hown hW 0 0 13 4 rfl sW_0 rfl (by decide) ⟨rfl, rfl, rfl⟩ (hts _ q1344) sW_g4 dX13_goes_59 ?_
      refine lv_icmp_le (tgt := 89) hx hb dX13_goes_62 (by decide) (fun c8 => ?_) (fun c8 => ?_)
      · have hf := o_t hf c8
        cases hf
        exact b_vret hx hb hr hlk hE hW () rfl trivial rfl dX13_goes_89
      · have hf := o_f hf c8
        refine lv_aload_n hx hb dX13_goes_65 rfl (lv_at hl 1 rfl) ?_
        refine lv_iconst (v := 1) hx hb dX13_goes_66 (by decide) ?_
        obtain ⟨S9, eS9, hf⟩ := o_ls hf
        refine b_put hx hb hts in_X13 tyX13 tyX13_ok nmX13 hown hW 0 0 13 3 rfl sW_0 (sW_p3 eS9) rfl rfl (by decide) ⟨rfl, rfl, rfl⟩ (hts _ q1343) rfl (ty := .boolean) rfl rfl rfl (by rw [sW_l]; decide) dX13_goes_67 (fun H locs hW => ?_)
        have hW : bW D g A s H locs [sW g adS (adX 0) S9, xW g adX (adN 0) (adT 0) iX X, vW g adN N, vW g adT T3, gW L kd nu aa] := hW
        refine lv_aload_n hx hb dX13_goes_70 rfl (lv_at hl 1 rfl) ?_
        refine lv_iload_n hx hb dX13_goes_71 rfl (lv_at hl 0 rfl) ?_
        obtain ⟨S10, eS10, hf⟩ := o_ls hf
        refine b_put hx hb hts in_X13 tyX13 tyX13_ok nmX13 hown hW 0 0 13 4 rfl sW_0 (sW_p4 eS10) rfl rfl (by decide) ⟨rfl, rfl, rfl⟩ (hts _ q1344) rfl (ty := .int) rfl rfl rfl (by rw [sW_l]; decide) dX13_goes_72 (fun H locs hW => ?_)
        have hW : bW D g A s H locs [sW g adS (adX 0) S10, xW g adX (adN 0) (adT 0) iX X, vW g adN N, vW g adT T3, gW L kd nu aa] := hW
        refine lv_aload_n hx hb dX13_goes_75 rfl (lv_at hl 1 rfl) ?_
        refine b_get hx hb hts in_X13 hown hW 0 0 13 1 rfl sW_0 rfl (by decide) ⟨rfl, rfl, rfl⟩ (hts _ q1340) sW_g1 dX13_goes_76 ?_
        refine lv_iconst (v := 0) hx hb dX13_goes_79 (by decide) ?_
        refine lv_aload_n hx hb dX13_goes_80 rfl (lv_at hl 1 rfl) ?_
        refine b_get hx hb hts in_X13 hown hW 0 0 13 2 rfl sW_0 rfl (by decide) ⟨rfl, rfl, rfl⟩ (hts _ q1341) sW_g2 dX13_goes_81 ?_
        refine lv_iconst (v := 0) hx hb dX13_goes_84 (by decide) ?_
        refine lv_iconst (v := 3) hx hb dX13_goes_85 (by decide) ?_
        obtain ⟨S11, eS11, hf⟩ := o_ls hf
        refine b_cpI hx hb (by rw [hml]; exact hl.1.symm) hown (hts _ q1338) (hts _ q469) (hts _ q468) (hts _ q90) hW 0 1 0 2 rfl sW_1 rfl sW_2 (sW_s2 eS11) rfl (by decide) (by decide) (by decide) (by decide) (by decide) (Nat.le_of_ble_eq_true rfl) (Nat.le_of_ble_eq_true rfl) dX13_goes_86 (fun H locs hW => ?_)
        have hW : bW D g A s H locs [sW g adS (adX 0) S11, xW g adX (adN 0) (adT 0) iX X, vW g adN N, vW g adT T3, gW L kd nu aa] := hW
        cases hf
        exact b_vret hx hb hr hlk hE hW () rfl trivial rfl dX13_goes_89
  · have hf := o_f hf c1
    refine lv_iconst (v := (-1)) hx hb dX13_goes_8 (by decide) ?_
    refine lv_istore_n (lv' := [(2, .int (-1)), (0, .ref (adS 0)), (1, .int x1)]) hx hb dX13_goes_9 rfl hl (by decide) rfl (fun ls hl => ?_)
    obtain ⟨stp12, est12, hf⟩ := o_ln hf
    have L12 : ∀ (n : Nat) (v13 : Int32) (S14 : BC) (T15 : BC) (H : Heap) (locs : List Loc) (ls : Array Slot), bW D g A s H locs [sW g adS (adX 0) S14, xW g adX (adN 0) (adT 0) iX X, vW g adN N, vW g adT T15, gW L kd nu aa] → lv_has ls 3 [(2, .int v13), (0, .ref (adS 0)), (1, .int x1)] → o_lp stp12 n (v13, S14, T15) = some (SO, TO) → W p l e rm_X13_goes_0 s m args below meth c H locs 0 0 Q (F0 m 10 ls []) := by
      intro n12
      induction n12 with
      | zero => intro v13 S14 T15 H locs ls hW hl hf; exact (o_lz hf).elim
      | succ n12 ih12 =>
        intro v13 S14 T15 H locs ls hW hl hf
        have hf := o_lu est12 hf
        rw [f_X13_goes_0_L10] at hf
        refine lv_iload_n hx hb dX13_goes_10 rfl (lv_at hl 0 rfl) ?_
        refine lv_aload_n hx hb dX13_goes_11 rfl (lv_at hl 1 rfl) ?_
        refine b_get hx hb hts in_X13 hown hW 0 0 13 5 rfl sW_0 rfl (by decide) ⟨rfl, rfl, rfl⟩ (hts _ q1346) sW_g5 dX13_goes_12 ?_
        refine b_getN hx hb hts in_X0 hown hW 1 0 0 0 rfl xW_0 rfl (by decide) ⟨rfl, rfl, rfl⟩ (va_Nw.use rfl (hW.2.2.2.2.2.2.1 _ (List.mem_of_getElem? (i := 0) rfl))) xW_g0 dX13_goes_15 ?_
        refine b_get hx hb hts in_X1 hown hW 2 0 1 12 rfl vW_0 rfl (by decide) ⟨rfl, rfl, rfl⟩ (hts _ q164) vW_g12 dX13_goes_18 ?_
        refine lv_icmp_ge (tgt := 44) hx hb dX13_goes_21 (by decide) (fun c16 => ?_) (fun c16 => ?_)
        · have hf := o_t hf c16
          cases hf
          exact b_vret hx hb hr hlk hE hW () rfl trivial rfl dX13_goes_44
        · have hf := o_f hf c16
          refine lv_aload_n hx hb dX13_goes_24 rfl (lv_at hl 1 rfl) ?_
          refine b_get hx hb hts in_X13 hown hW 0 0 13 1 rfl sW_0 rfl (by decide) ⟨rfl, rfl, rfl⟩ (hts _ q1340) sW_g1 dX13_goes_25 ?_
          refine lv_iload_n hx hb dX13_goes_28 rfl (lv_at hl 2 rfl) ?_
          refine lv_iload_n hx hb dX13_goes_29 rfl (lv_at hl 0 rfl) ?_
          obtain ⟨h17, hf⟩ := o_cs hf
          obtain ⟨S18, eS18, hf⟩ := o_ls hf
          refine b_iast hx hb hW 0 1 rfl sW_1 (sW_s1 eS18) rfl h17 dX13_goes_30 (fun H locs hW => ?_)
          have hW : bW D g A s H locs [sW g adS (adX 0) S18, xW g adX (adN 0) (adT 0) iX X, vW g adN N, vW g adT T15, gW L kd nu aa] := hW
          refine lv_aload_n hx hb dX13_goes_31 rfl (lv_at hl 1 rfl) ?_
          refine lv_iload_n hx hb dX13_goes_32 rfl (lv_at hl 2 rfl) ?_
          refine lv_iconst (v := 1) hx hb dX13_goes_33 (by decide) ?_
          refine lv_iadd hx hb dX13_goes_34 ?_
          obtain ⟨S19, T20, hc20, hf⟩ := o_b2s hf
          have hp20 : List.Perm [sW g adS (adX 0) S18, xW g adX (adN 0) (adT 0) iX X, vW g adN N, vW g adT T15, gW L kd nu aa] ([sW g adS (adX 0) S18, xW g adX (adN 0) (adT 0) iX X, vW g adN N, vW g adT T15, gW L kd nu aa] ++ []) := b_perm [0, 1, 2, 3, 4] [] 5 rfl rfl rfl rfl
          refine b_call0 ⟨rfl, rfl⟩ (va_runV (As := [.int (x1 + 1)]) (rest := []) ⟨hx, hb, hml, hown, hts⟩ (m_X13_goes_1 l D g H.size adS adX iX adN adT fu S18 X N T15 L kd nu aa (x1 + 1) S19 T20 hc20) (cwV 1 hts (lw_V q1328 q1330 qs28 q109 q1331) rfl rfl rfl (by decide +kernel) ⟨Nat.le_of_ble_eq_true rfl, Nat.le_of_ble_eq_true rfl⟩) (b_preV (pp := 0) (q := 0) hW hp20 rfl sW_0 rfl) rfl rfl hl.1 rfl (lv_room (Nat.le_of_ble_eq_true rfl)) dX13_goes_35 ⟨Nat.le_of_ble_eq_true rfl, Nat.le_of_ble_eq_true rfl⟩) hW hp20 (fun _ _ H locs hW => ?_)
          have hW : bW D g A s H locs [sW g adS (adX 0) S19, xW g adX (adN 0) (adT 0) iX X, vW g adN N, vW g adT T20, gW L kd nu aa] := hW
          obtain ⟨v21, ev21, hf⟩ := o_ls hf
          refine lv_iinc (v := v21) (lv' := [(2, .int v21), (0, .ref (adS 0)), (1, .int x1)]) hx hb dX13_goes_38 hl (k := 0) rfl ev21 (by decide) rfl (fun ls hl => ?_)
          refine lv_goto (tgt := 10) hx hb dX13_goes_41 (by decide) ?_
          exact ih12 _ _ _ _ _ _ hW (lv_sub hl [0, 1, 2] rfl) hf
    exact L12 _ _ _ _ _ _ _ hW (lv_sub hl [0, 1, 2] rfl) hf
