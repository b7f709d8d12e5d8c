/-! Valley: coming, nights, years: printed by gen/all.py -/
set_option maxRecDepth 100000
def f_X1_adds_2 (V : BC) (L : List Nat) (kd : Nat → Nat) (nu : Nat → Int32) (aa : Nat → Int32) (x1 : Nat) (x2 : Int32) : Option BC :=
 o_ck (gIn L kd x1) (o_ck (inB (V.1 0 1) 6) (o_lt (bR V 8 (va_up (V.2.1 8) (ix (V.1 0 1)) (some x1))) fun (V3 : BC) =>
 o_ck (inB (V3.1 0 1) 6) (o_lt (bI V3 9 (upd (V3.1 9) (ix (V3.1 0 1)) x2)) fun (V5 : BC) =>
 o_lt ((V5.1 0 1) + 1) fun (v6 : Int32) =>
 o_lt (bI V5 0 (upd (V5.1 0) 1 v6)) fun (V7 : BC) =>
 some V7)))
abbrev rm_X1_adds_2 : Room := { frames := 0, cells := 0, slots := 0, locals := 0 }
set_option maxHeartbeats 4000000 in
set_option maxRecDepth 100000 in
theorem m_X1_adds_2 (l : Launch) (D : va_G) (g : Nat → ClassId) (sz : Nat) (adV : Nat → Nat) (V : BC) (L : List Nat) (kd : Nat → Nat) (nu : Nat → Int32) (aa : Nat → Int32) (x1 : Nat) (x2 : Int32) (VO : BC) (hf : f_X1_adds_2 V L kd nu aa x1 x2 = some VO) : bMet (S := Unit) l yX1_adds_2 (ws_ yX1_adds_2 cX1_adds_2 3 none) rm_X1_adds_2 D g sz [.ref (adV 0), .ref x1, .int x2] [vW g adV V, gW L kd nu aa] (fun _ => True) (fun _ => none) (fun _ => [vW g adV VO, gW L kd nu aa]) := by
  refine b_met (by decide) (Nat.le_of_ble_eq_true rfl) ?_
  intro p e s m args below meth c A Q ls hx hb hml hr hlk hown hname hts hE hl hW
  revert hW; generalize s.heap = H; intro hW
  have hl : lv_has ls 3 [(0, .ref (adV 0)), (1, .ref x1), (2, .int x2)] := hl
  rw [f_X1_adds_2] at hf
  refine lv_aload_n hx hb dX1_adds_2_0 rfl (lv_at hl 0 rfl) ?_
  refine b_get hx hb hts in_X1 hown hW 0 0 1 7 rfl vW_0 rfl (by decide) ⟨rfl, rfl, rfl⟩ (hts _ q153) vW_g7 dX1_adds_2_1 ?_
  refine lv_aload_n hx hb dX1_adds_2_4 rfl (lv_at hl 0 rfl) ?_
  refine b_get hx hb hts in_X1 hown hW 0 0 1 13 rfl vW_0 rfl (by decide) ⟨rfl, rfl, rfl⟩ (hts _ q168) vW_g13 dX1_adds_2_5 ?_
  refine lv_aload_n hx hb dX1_adds_2_8 rfl (lv_at hl 1 rfl) ?_
  obtain ⟨h1, hf⟩ := o_cs hf
  obtain ⟨h2, hf⟩ := o_cs hf
  obtain ⟨V3, eV3, hf⟩ := o_ls hf
  refine b_astG hx hb hW 0 8 1 rfl rfl h1 vW_8 (vW_s8 eV3) rfl h2 dX1_adds_2_9 (fun H locs hW => ?_)
  have hW : bW D g A s H locs [vW g adV V3, gW L kd nu aa] := hW
  refine lv_aload_n hx hb dX1_adds_2_10 rfl (lv_at hl 0 rfl) ?_
  refine b_get hx hb hts in_X1 hown hW 0 0 1 8 rfl vW_0 rfl (by decide) ⟨rfl, rfl, rfl⟩ (hts _ q155) vW_g8 dX1_adds_2_11 ?_
  refine lv_aload_n hx hb dX1_adds_2_14 rfl (lv_at hl 0 rfl) ?_
  refine b_get hx hb hts in_X1 hown hW 0 0 1 13 rfl vW_0 rfl (by decide) ⟨rfl, rfl, rfl⟩ (hts _ q168) vW_g13 dX1_adds_2_15 ?_
  refine lv_iload_n hx hb dX1_adds_2_18 rfl (lv_at hl 2 rfl) ?_
  obtain ⟨h4, hf⟩ := o_cs hf
  obtain ⟨V5, eV5, hf⟩ := o_ls hf
  refine b_iast hx hb hW 0 9 rfl vW_9 (vW_s9 eV5) rfl h4 dX1_adds_2_19 (fun H locs hW => ?_)
  have hW : bW D g A s H locs [vW g adV V5, gW L kd nu aa] := hW
  refine lv_aload_n hx hb dX1_adds_2_20 rfl (lv_at hl 0 rfl) ?_
  refine lv_dup hx hb dX1_adds_2_21 rfl ?_
  refine b_get hx hb hts in_X1 hown hW 0 0 1 13 rfl vW_0 rfl (by decide) ⟨rfl, rfl, rfl⟩ (hts _ q168) vW_g13 dX1_adds_2_22 ?_
  refine lv_iconst (v := 1) hx hb dX1_adds_2_25 (by decide) ?_
  refine lv_iadd hx hb dX1_adds_2_26 ?_
  obtain ⟨v6, ev6, hf⟩ := o_ls hf
  refine b_topi ev6 ?_
  obtain ⟨V7, eV7, hf⟩ := o_ls hf
  refine b_put hx hb hts in_X1 tyX1 tyX1_ok nmX1 hown hW 0 0 1 13 rfl vW_0 (vW_p13 eV7) rfl rfl (by decide) ⟨rfl, rfl, rfl⟩ (hts _ q168) rfl (ty := .int) rfl rfl rfl (by rw [vW_l]; decide) dX1_adds_2_27 (fun H locs hW => ?_)
  have hW : bW D g A s H locs [vW g adV V7, gW L kd nu aa] := hW
  cases hf
  exact b_vret hx hb hr hlk hE hW () rfl trivial rfl dX1_adds_2_30
def f_X1_becomes (V : BC) (U : BC) (L : List Nat) (kd : Nat → Nat) (nu : Nat → Int32) (aa : Nat → Int32) : Option BC :=
 o_lt (bI V 1 (va_cpy (U.1 1) (V.1 1) (ix 0) (ix 0) (ix 6))) fun (V1 : BC) =>
 o_lt (bI V1 2 (va_cpy (U.1 2) (V1.1 2) (ix 0) (ix 0) (ix 6))) fun (V2 : BC) =>
 o_lt (bI V2 3 (va_cpy (U.1 3) (V2.1 3) (ix 0) (ix 0) (ix 6))) fun (V3 : BC) =>
 o_lt (bI V3 4 (va_cpy (U.1 4) (V3.1 4) (ix 0) (ix 0) (ix 6))) fun (V4 : BC) =>
 o_lt (bI V4 5 (va_cpy (U.1 5) (V4.1 5) (ix 0) (ix 0) (ix 6))) fun (V5 : BC) =>
 o_lt (bI V5 6 (va_cpy (U.1 6) (V5.1 6) (ix 0) (ix 0) (ix 6))) fun (V6 : BC) =>
 o_lt (bI V6 7 (va_cpy (U.1 7) (V6.1 7) (ix 0) (ix 0) (ix 6))) fun (V7 : BC) =>
 o_ck (gAll L kd (U.2.1 8) 6) (o_lt (bR V7 8 (va_cpy (U.2.1 8) (V7.2.1 8) (ix 0) (ix 0) (ix 6))) fun (V9 : BC) =>
 o_lt (bI V9 9 (va_cpy (U.1 9) (V9.1 9) (ix 0) (ix 0) (ix 6))) fun (V10 : BC) =>
 o_lt (U.1 0 0) fun (v11 : Int32) =>
 o_lt (bI V10 0 (upd (V10.1 0) 0 v11)) fun (V12 : BC) =>
 o_lt (U.1 0 1) fun (v13 : Int32) =>
 o_lt (bI V12 0 (upd (V12.1 0) 1 v13)) fun (V14 : BC) =>
 o_lt (U.1 0 2) fun (v15 : Int32) =>
 o_lt (bI V14 0 (upd (V14.1 0) 2 v15)) fun (V16 : BC) =>
 o_lt (U.1 0 3) fun (v17 : Int32) =>
 o_lt (bI V16 0 (upd (V16.1 0) 3 v17)) fun (V18 : BC) =>
 o_lt (U.1 0 4) fun (v19 : Int32) =>
 o_lt (bI V18 0 (upd (V18.1 0) 4 v19)) fun (V20 : BC) =>
 some V20)
abbrev rm_X1_becomes : Room := { frames := 1, cells := 0, slots := 0, locals := 64 }
set_option maxHeartbeats 4000000 in
set_option maxRecDepth 100000 in
theorem m_X1_becomes (l : Launch) (D : va_G) (g : Nat → ClassId) (sz : Nat) (adV : Nat → Nat) (adU : Nat → Nat) (V : BC) (U : BC) (L : List Nat) (kd : Nat → Nat) (nu : Nat → Int32) (aa : Nat → Int32) (VO : BC) (hf : f_X1_becomes V U L kd nu aa = some VO) : bMet (S := Unit) l yX1_becomes (ws_ yX1_becomes cX1_becomes 2 (some (.object "EverybodyHasTheBook$Valley"))) rm_X1_becomes D g sz [.ref (adV 0), .ref (adU 0)] [vW g adV V, vW g adU U, gW L kd nu aa] (fun _ => True) (fun _ => some (.ref (adV 0))) (fun _ => [vW g adV VO, vW g adU U, gW L kd nu aa]) := by
  refine b_met (by decide) (Nat.le_of_ble_eq_true rfl) ?_
  intro p e s m args below meth c A Q ls hx hb hml hr hlk hown hname hts hE hl hW
  revert hW; generalize s.heap = H; intro hW
  have hl : lv_has ls 2 [(0, .ref (adV 0)), (1, .ref (adU 0))] := hl
  rw [f_X1_becomes] at hf
  refine lv_aload_n hx hb dX1_becomes_0 rfl (lv_at hl 1 rfl) ?_
  refine b_get hx hb hts in_X1 hown hW 1 0 1 0 rfl vW_0 rfl (by decide) ⟨rfl, rfl, rfl⟩ (hts _ q128) vW_g0 dX1_becomes_1 ?_
  refine lv_iconst (v := 0) hx hb dX1_becomes_4 (by decide) ?_
  refine lv_aload_n hx hb dX1_becomes_5 rfl (lv_at hl 0 rfl) ?_
  refine b_get hx hb hts in_X1 hown hW 0 0 1 0 rfl vW_0 rfl (by decide) ⟨rfl, rfl, rfl⟩ (hts _ q128) vW_g0 dX1_becomes_6 ?_
  refine lv_iconst (v := 0) hx hb dX1_becomes_9 (by decide) ?_
  refine lv_bipush (v := 6) hx hb dX1_becomes_10 (by decide) ?_
  obtain ⟨V1, eV1, hf⟩ := o_ls hf
  refine b_cpI hx hb (by rw [hml]; exact hl.1.symm) hown (hts _ q737) (hts _ q469) (hts _ q468) (hts _ q90) hW 1 1 0 1 rfl vW_1 rfl vW_1 (vW_s1 eV1) rfl (by decide) (by decide) (by decide) (by decide) (by decide) (Nat.le_of_ble_eq_true rfl) (Nat.le_of_ble_eq_true rfl) dX1_becomes_12 (fun H locs hW => ?_)
  have hW : bW D g A s H locs [vW g adV V1, vW g adU U, gW L kd nu aa] := hW
  refine lv_aload_n hx hb dX1_becomes_15 rfl (lv_at hl 1 rfl) ?_
  refine b_get hx hb hts in_X1 hown hW 1 0 1 1 rfl vW_0 rfl (by decide) ⟨rfl, rfl, rfl⟩ (hts _ q132) vW_g1 dX1_becomes_16 ?_
  refine lv_iconst (v := 0) hx hb dX1_becomes_19 (by decide) ?_
  refine lv_aload_n hx hb dX1_becomes_20 rfl (lv_at hl 0 rfl) ?_
  refine b_get hx hb hts in_X1 hown hW 0 0 1 1 rfl vW_0 rfl (by decide) ⟨rfl, rfl, rfl⟩ (hts _ q132) vW_g1 dX1_becomes_21 ?_
  refine lv_iconst (v := 0) hx hb dX1_becomes_24 (by decide) ?_
  refine lv_bipush (v := 6) hx hb dX1_becomes_25 (by decide) ?_
  obtain ⟨V2, eV2, hf⟩ := o_ls hf
  refine b_cpI hx hb (by rw [hml]; exact hl.1.symm) hown (hts _ q737) (hts _ q469) (hts _ q468) (hts _ q90) hW 1 2 0 2 rfl vW_2 rfl vW_2 (vW_s2 eV2) rfl (by decide) (by decide) (by decide) (by decide) (by decide) (Nat.le_of_ble_eq_true rfl) (Nat.le_of_ble_eq_true rfl) dX1_becomes_27 (fun H locs hW => ?_)
  have hW : bW D g A s H locs [vW g adV V2, vW g adU U, gW L kd nu aa] := hW
  refine lv_aload_n hx hb dX1_becomes_30 rfl (lv_at hl 1 rfl) ?_
  refine b_get hx hb hts in_X1 hown hW 1 0 1 2 rfl vW_0 rfl (by decide) ⟨rfl, rfl, rfl⟩ (hts _ q134) vW_g2 dX1_becomes_31 ?_
  refine lv_iconst (v := 0) hx hb dX1_becomes_34 (by decide) ?_
  refine lv_aload_n hx hb dX1_becomes_35 rfl (lv_at hl 0 rfl) ?_
  refine b_get hx hb hts in_X1 hown hW 0 0 1 2 rfl vW_0 rfl (by decide) ⟨rfl, rfl, rfl⟩ (hts _ q134) vW_g2 dX1_becomes_36 ?_
  refine lv_iconst (v := 0) hx hb dX1_becomes_39 (by decide) ?_
  refine lv_bipush (v := 6) hx hb dX1_becomes_40 (by decide) ?_
  obtain ⟨V3, eV3, hf⟩ := o_ls hf
  refine b_cpI hx hb (by rw [hml]; exact hl.1.symm) hown (hts _ q737) (hts _ q469) (hts _ q468) (hts _ q90) hW 1 3 0 3 rfl vW_3 rfl vW_3 (vW_s3 eV3) rfl (by decide) (by decide) (by decide) (by decide) (by decide) (Nat.le_of_ble_eq_true rfl) (Nat.le_of_ble_eq_true rfl) dX1_becomes_42 (fun H locs hW => ?_)
  have hW : bW D g A s H locs [vW g adV V3, vW g adU U, gW L kd nu aa] := hW
  refine lv_aload_n hx hb dX1_becomes_45 rfl (lv_at hl 1 rfl) ?_
  refine b_get hx hb hts in_X1 hown hW 1 0 1 3 rfl vW_0 rfl (by decide) ⟨rfl, rfl, rfl⟩ (hts _ q136) vW_g3 dX1_becomes_46 ?_
  refine lv_iconst (v := 0) hx hb dX1_becomes_49 (by decide) ?_
  refine lv_aload_n hx hb dX1_becomes_50 rfl (lv_at hl 0 rfl) ?_
  refine b_get hx hb hts in_X1 hown hW 0 0 1 3 rfl vW_0 rfl (by decide) ⟨rfl, rfl, rfl⟩ (hts _ q136) vW_g3 dX1_becomes_51 ?_
  refine lv_iconst (v := 0) hx hb dX1_becomes_54 (by decide) ?_
  refine lv_bipush (v := 6) hx hb dX1_becomes_55 (by decide) ?_
  obtain ⟨V4, eV4, hf⟩ := o_ls hf
  refine b_cpI hx hb (by rw [hml]; exact hl.1.symm) hown (hts _ q737) (hts _ q469) (hts _ q468) (hts _ q90) hW 1 4 0 4 rfl vW_4 rfl vW_4 (vW_s4 eV4) rfl (by decide) (by decide) (by decide) (by decide) (by decide) (Nat.le_of_ble_eq_true rfl) (Nat.le_of_ble_eq_true rfl) dX1_becomes_57 (fun H locs hW => ?_)
  have hW : bW D g A s H locs [vW g adV V4, vW g adU U, gW L kd nu aa] := hW
  refine lv_aload_n hx hb dX1_becomes_60 rfl (lv_at hl 1 rfl) ?_
  refine b_get hx hb hts in_X1 hown hW 1 0 1 4 rfl vW_0 rfl (by decide) ⟨rfl, rfl, rfl⟩ (hts _ q140) vW_g4 dX1_becomes_61 ?_
  refine lv_iconst (v := 0) hx hb dX1_becomes_64 (by decide) ?_
  refine lv_aload_n hx hb dX1_becomes_65 rfl (lv_at hl 0 rfl) ?_
  refine b_get hx hb hts in_X1 hown hW 0 0 1 4 rfl vW_0 rfl (by decide) ⟨rfl, rfl, rfl⟩ (hts _ q140) vW_g4 dX1_becomes_66 ?_
  refine lv_iconst (v := 0) hx hb dX1_becomes_69 (by decide) ?_
  refine lv_bipush (v := 6) hx hb dX1_becomes_70 (by decide) ?_
  obtain ⟨V5, eV5, hf⟩ := o_ls hf
  refine b_cpI hx hb (by rw [hml]; exact hl.1.symm) hown (hts _ q737) (hts _ q469) (hts _ q468) (hts _ q90) hW 1 5 0 5 rfl vW_5 rfl vW_5 (vW_s5 eV5) rfl (by decide) (by decide) (by decide) (by decide) (by decide) (Nat.le_of_ble_eq_true rfl) (Nat.le_of_ble_eq_true rfl) dX1_becomes_72 (fun H locs hW => ?_)
  have hW : bW D g A s H locs [vW g adV V5, vW g adU U, gW L kd nu aa] := hW
  refine lv_aload_n hx hb dX1_becomes_75 rfl (lv_at hl 1 rfl) ?_
  refine b_get hx hb hts in_X1 hown hW 1 0 1 5 rfl vW_0 rfl (by decide) ⟨rfl, rfl, rfl⟩ (hts _ q146) vW_g5 dX1_becomes_76 ?_
  refine lv_iconst (v := 0) hx hb dX1_becomes_79 (by decide) ?_
  refine lv_aload_n hx hb dX1_becomes_80 rfl (lv_at hl 0 rfl) ?_
  refine b_get hx hb hts in_X1 hown hW 0 0 1 5 rfl vW_0 rfl (by decide) ⟨rfl, rfl, rfl⟩ (hts _ q146) vW_g5 dX1_becomes_81 ?_
  refine lv_iconst (v := 0) hx hb dX1_becomes_84 (by decide) ?_
  refine lv_bipush (v := 6) hx hb dX1_becomes_85 (by decide) ?_
  obtain ⟨V6, eV6, hf⟩ := o_ls hf
  refine b_cpI hx hb (by rw [hml]; exact hl.1.symm) hown (hts _ q737) (hts _ q469) (hts _ q468) (hts _ q90) hW 1 6 0 6 rfl vW_6 rfl vW_6 (vW_s6 eV6) rfl (by decide) (by decide) (by decide) (by decide) (by decide) (Nat.le_of_ble_eq_true rfl) (Nat.le_of_ble_eq_true rfl) dX1_becomes_87 (fun H locs hW => ?_)
  have hW : bW D g A s H locs [vW g adV V6, vW g adU U, gW L kd nu aa] := hW
  refine lv_aload_n hx hb dX1_becomes_90 rfl (lv_at hl 1 rfl) ?_
  refine b_get hx hb hts in_X1 hown hW 1 0 1 6 rfl vW_0 rfl (by decide) ⟨rfl, rfl, rfl⟩ (hts _ q150) vW_g6 dX1_becomes_91 ?_
  refine lv_iconst (v := 0) hx hb dX1_becomes_94 (by decide) ?_
  refine lv_aload_n hx hb dX1_becomes_95 rfl (lv_at hl 0 rfl) ?_
  refine b_get hx hb hts in_X1 hown hW 0 0 1 6 rfl vW_0 rfl (by decide) ⟨rfl, rfl, rfl⟩ (hts _ q150) vW_g6 dX1_becomes_96 ?_
  refine lv_iconst (v := 0) hx hb dX1_becomes_99 (by decide) ?_
  refine lv_bipush (v := 6) hx hb dX1_becomes_100 (by decide) ?_
  obtain ⟨V7, eV7, hf⟩ := o_ls hf
  refine b_cpI hx hb (by rw [hml]; exact hl.1.symm) hown (hts _ q737) (hts _ q469) (hts _ q468) (hts _ q90) hW 1 7 0 7 rfl vW_7 rfl vW_7 (vW_s7 eV7) rfl (by decide) (by decide) (by decide) (by decide) (by decide) (Nat.le_of_ble_eq_true rfl) (Nat.le_of_ble_eq_true rfl) dX1_becomes_102 (fun H locs hW => ?_)
  have hW : bW D g A s H locs [vW g adV V7, vW g adU U, gW L kd nu aa] := hW
  refine lv_aload_n hx hb dX1_becomes_105 rfl (lv_at hl 1 rfl) ?_
  refine b_get hx hb hts in_X1 hown hW 1 0 1 7 rfl vW_0 rfl (by decide) ⟨rfl, rfl, rfl⟩ (hts _ q153) vW_g7 dX1_becomes_106 ?_
  refine lv_iconst (v := 0) hx hb dX1_becomes_109 (by decide) ?_
  refine lv_aload_n hx hb dX1_becomes_110 rfl (lv_at hl 0 rfl) ?_
  refine b_get hx hb hts in_X1 hown hW 0 0 1 7 rfl vW_0 rfl (by decide) ⟨rfl, rfl, rfl⟩ (hts _ q153) vW_g7 dX1_becomes_111 ?_
  refine lv_iconst (v := 0) hx hb dX1_becomes_114 (by decide) ?_
  refine lv_bipush (v := 6) hx hb dX1_becomes_115 (by decide) ?_
  obtain ⟨h8, hf⟩ := o_cs hf
  obtain ⟨V9, eV9, hf⟩ := o_ls hf
  refine b_cpG hx hb (by rw [hml]; exact hl.1.symm) hown (hts _ q737) (hts _ q469) (hts _ q468) (hts _ q90) hW 1 8 0 8 2 rfl vW_8 rfl vW_8 rfl h8 (vW_s8 eV9) rfl (by decide) (by decide) (by decide) (Nat.le_of_ble_eq_true rfl) (Nat.le_of_ble_eq_true rfl) dX1_becomes_117 (fun H locs hW => ?_)
  have hW : bW D g A s H locs [vW g adV V9, vW g adU U, gW L kd nu aa] := hW
  refine lv_aload_n hx hb dX1_becomes_120 rfl (lv_at hl 1 rfl) ?_
  refine b_get hx hb hts in_X1 hown hW 1 0 1 8 rfl vW_0 rfl (by decide) ⟨rfl, rfl, rfl⟩ (hts _ q155) vW_g8 dX1_becomes_121 ?_
  refine lv_iconst (v := 0) hx hb dX1_becomes_124 (by decide) ?_
  refine lv_aload_n hx hb dX1_becomes_125 rfl (lv_at hl 0 rfl) ?_
  refine b_get hx hb hts in_X1 hown hW 0 0 1 8 rfl vW_0 rfl (by decide) ⟨rfl, rfl, rfl⟩ (hts _ q155) vW_g8 dX1_becomes_126 ?_
  refine lv_iconst (v := 0) hx hb dX1_becomes_129 (by decide) ?_
  refine lv_bipush (v := 6) hx hb dX1_becomes_130 (by decide) ?_
  obtain ⟨V10, eV10, hf⟩ := o_ls hf
  refine b_cpI hx hb (by rw [hml]; exact hl.1.symm) hown (hts _ q737) (hts _ q469) (hts _ q468) (hts _ q90) hW 1 9 0 9 rfl vW_9 rfl vW_9 (vW_s9 eV10) rfl (by decide) (by decide) (by decide) (by decide) (by decide) (Nat.le_of_ble_eq_true rfl) (Nat.le_of_ble_eq_true rfl) dX1_becomes_132 (fun H locs hW => ?_)
  have hW : bW D g A s H locs [vW g adV V10, vW g adU U, gW L kd nu aa] := hW
  refine lv_aload_n hx hb dX1_becomes_135 rfl (lv_at hl 0 rfl) ?_
  refine lv_aload_n hx hb dX1_becomes_136 rfl (lv_at hl 1 rfl) ?_
  refine b_get hx hb hts in_X1 hown hW 1 0 1 12 rfl vW_0 rfl (by decide) ⟨rfl, rfl, rfl⟩ (hts _ q165) vW_g12 dX1_becomes_137 ?_
  obtain ⟨v11, ev11, hf⟩ := o_ls hf
  refine b_topi ev11 ?_
  obtain ⟨V12, eV12, hf⟩ := o_ls hf
  refine b_put hx hb hts in_X1 tyX1 tyX1_ok nmX1 hown hW 0 0 1 12 rfl vW_0 (vW_p12 eV12) rfl rfl (by decide) ⟨rfl, rfl, rfl⟩ (hts _ q165) rfl (ty := .int) rfl rfl rfl (by rw [vW_l]; decide) dX1_becomes_140 (fun H locs hW => ?_)
  have hW : bW D g A s H locs [vW g adV V12, vW g adU U, gW L kd nu aa] := hW
  refine lv_aload_n hx hb dX1_becomes_143 rfl (lv_at hl 0 rfl) ?_
  refine lv_aload_n hx hb dX1_becomes_144 rfl (lv_at hl 1 rfl) ?_
  refine b_get hx hb hts in_X1 hown hW 1 0 1 13 rfl vW_0 rfl (by decide) ⟨rfl, rfl, rfl⟩ (hts _ q168) vW_g13 dX1_becomes_145 ?_
  obtain ⟨v13, ev13, hf⟩ := o_ls hf
  refine b_topi ev13 ?_
  obtain ⟨V14, eV14, hf⟩ := o_ls hf
  refine b_put hx hb hts in_X1 tyX1 tyX1_ok nmX1 hown hW 0 0 1 13 rfl vW_0 (vW_p13 eV14) rfl rfl (by decide) ⟨rfl, rfl, rfl⟩ (hts _ q168) rfl (ty := .int) rfl rfl rfl (by rw [vW_l]; decide) dX1_becomes_148 (fun H locs hW => ?_)
  have hW : bW D g A s H locs [vW g adV V14, vW g adU U, gW L kd nu aa] := hW
  refine lv_aload_n hx hb dX1_becomes_151 rfl (lv_at hl 0 rfl) ?_
  refine lv_aload_n hx hb dX1_becomes_152 rfl (lv_at hl 1 rfl) ?_
  refine b_get hx hb hts in_X1 hown hW 1 0 1 14 rfl vW_0 rfl (by decide) ⟨rfl, rfl, rfl⟩ (hts _ q172) vW_g14 dX1_becomes_153 ?_
  obtain ⟨v15, ev15, hf⟩ := o_ls hf
  refine b_topi ev15 ?_
  obtain ⟨V16, eV16, hf⟩ := o_ls hf
  refine b_put hx hb hts in_X1 tyX1 tyX1_ok nmX1 hown hW 0 0 1 14 rfl vW_0 (vW_p14 eV16) rfl rfl (by decide) ⟨rfl, rfl, rfl⟩ (hts _ q172) rfl (ty := .int) rfl rfl rfl (by rw [vW_l]; decide) dX1_becomes_156 (fun H locs hW => ?_)
  have hW : bW D g A s H locs [vW g adV V16, vW g adU U, gW L kd nu aa] := hW
  refine lv_aload_n hx hb dX1_becomes_159 rfl (lv_at hl 0 rfl) ?_
  refine lv_aload_n hx hb dX1_becomes_160 rfl (lv_at hl 1 rfl) ?_
  refine b_get hx hb hts in_X1 hown hW 1 0 1 15 rfl vW_0 rfl (by decide) ⟨rfl, rfl, rfl⟩ (hts _ q175) vW_g15 dX1_becomes_161 ?_
  obtain ⟨v17, ev17, hf⟩ := o_ls hf
  refine b_topi ev17 ?_
  obtain ⟨V18, eV18, hf⟩ := o_ls hf
  refine b_put hx hb hts in_X1 tyX1 tyX1_ok nmX1 hown hW 0 0 1 15 rfl vW_0 (vW_p15 eV18) rfl rfl (by decide) ⟨rfl, rfl, rfl⟩ (hts _ q175) rfl (ty := .int) rfl rfl rfl (by rw [vW_l]; decide) dX1_becomes_164 (fun H locs hW => ?_)
  have hW : bW D g A s H locs [vW g adV V18, vW g adU U, gW L kd nu aa] := hW
  refine lv_aload_n hx hb dX1_becomes_167 rfl (lv_at hl 0 rfl) ?_
  refine lv_aload_n hx hb dX1_becomes_168 rfl (lv_at hl 1 rfl) ?_
  refine b_get hx hb hts in_X1 hown hW 1 0 1 16 rfl vW_0 rfl (by decide) ⟨rfl, rfl, rfl⟩ (hts _ q177) vW_g16 dX1_becomes_169 ?_
  obtain ⟨v19, ev19, hf⟩ := o_ls hf
  refine b_topi ev19 ?_
  obtain ⟨V20, eV20, hf⟩ := o_ls hf
  refine b_put hx hb hts in_X1 tyX1 tyX1_ok nmX1 hown hW 0 0 1 16 rfl vW_0 (vW_p16 eV20) rfl rfl (by decide) ⟨rfl, rfl, rfl⟩ (hts _ q177) rfl (ty := .int) rfl rfl rfl (by rw [vW_l]; decide) dX1_becomes_172 (fun H locs hW => ?_)
  have hW : bW D g A s H locs [vW g adV V20, vW g adU U, gW L kd nu aa] := hW
  refine lv_aload_n hx hb dX1_becomes_175 rfl (lv_at hl 0 rfl) ?_
  cases hf
  exact b_aret hx hb hr (Or.inl ⟨_, rfl⟩) hlk hE hW () rfl trivial (Or.inr ⟨_, rfl⟩) rfl dX1_becomes_176
def f_X1_comes_L18 (L : List Nat) (kd : Nat → Nat) (nu : Nat → Int32) (aa : Nat → Int32) (x1 : Int32) (fu : Nat) (rec6 : (Int32 × Int32 × BC) → Option BC) : Int32 × Int32 × BC → Option BC
  | (v7, v8, V9) =>
    (if v7 ≤ 0 then
     o_lt ((V9.1 18 (ix x1)) + v7) fun (v11 : Int32) =>
     o_lt (bI V9 18 (upd (V9.1 18) (ix x1) v11)) fun (V12 : BC) =>
     some V12
     else
     (if v8 = (-1) then
     o_lt ((V9.1 18 (ix x1)) + v7) fun (v14 : Int32) =>
     o_lt (bI V9 18 (upd (V9.1 18) (ix x1) v14)) fun (V15 : BC) =>
     some V15
     else
     o_ck (inB v8 6) (o_lt ((if ((V9.1 3 (ix v8)) - (V9.1 17 (ix v8))) < v7 then ((V9.1 3 (ix v8)) - (V9.1 17 (ix v8))) else v7)) fun (v17 : Int32) =>
     o_lt ((V9.1 (11 + ix x1) (ix v8)) + v17) fun (v18 : Int32) =>
     o_lt (bI V9 (11 + ix x1) (upd (V9.1 (11 + ix x1)) (ix v8) v18)) fun (V19 : BC) =>
     o_lt ((V19.1 17 (ix v8)) + v17) fun (v20 : Int32) =>
     o_lt (bI V19 17 (upd (V19.1 17) (ix v8) v20)) fun (V21 : BC) =>
     o_lt (v7 - v17) fun (v22 : Int32) =>
     o_op (V21.2.1 8 (ix x1)) none fun (a23 : Nat) => o_ck (gIn L kd a23) (o_b1 (f_X1_open fu V21) fun (r25 : Int32) =>
     o_b1 (fg_first fu V21 L kd nu aa a23 r25) fun (r26 : Int32) =>
     rec6 (v22, r26, V21)))))
def f_X1_comes (fu : Nat) (V : BC) (L : List Nat) (kd : Nat → Nat) (nu : Nat → Int32) (aa : Nat → Int32) (x1 : Int32) (x2 : Int32) : Option BC :=
 o_ck (inB x1 6) (o_op (V.2.1 8 (ix x1)) none fun (a2 : Nat) => o_ck (gIn L kd a2) (o_b1 (f_X1_open fu V) fun (r4 : Int32) =>
 o_b1 (fg_first fu V L kd nu aa a2 r4) fun (r5 : Int32) =>
 o_lp (f_X1_comes_L18 L kd nu aa x1 fu) fu (x2, r5, V)))
abbrev rm_X1_comes : Room := { frames := 5, cells := 0, slots := 0, locals := 117 }
set_option maxHeartbeats 4000000 in
set_option maxRecDepth 100000 in
theorem m_X1_comes (l : Launch) (D : va_G) (g : Nat → ClassId) (sz : Nat) (adV : Nat → Nat) (fu : Nat) (V : BC) (L : List Nat) (kd : Nat → Nat) (nu : Nat → Int32) (aa : Nat → Int32) (x1 : Int32) (x2 : Int32) (VO : BC) (hf : f_X1_comes fu V L kd nu aa x1 x2 = some VO) : bMet (S := Unit) l yX1_comes (ws_ yX1_comes cX1_comes 6 none) rm_X1_comes D g sz [.ref (adV 0), .int x1, .int x2] [vW g adV V, gW L kd nu aa] (fun _ => True) (fun _ => none) (fun _ => [vW g adV VO, gW L kd nu aa]) := by
  refine b_met (by decide) (Nat.le_of_ble_eq_true rfl) ?_
  intro p e s m args below meth c A Q ls hx hb hml hr hlk hown hname hts hE hl hW
  revert hW; generalize s.heap = H; intro hW
  have hl : lv_has ls 6 [(0, .ref (adV 0)), (1, .int x1), (2, .int x2)] := hl
  rw [f_X1_comes] at hf
  refine lv_iload_n hx hb dX1_comes_0 rfl (lv_at hl 2 rfl) ?_
  refine lv_istore_n (lv' := [(3, .int x2), (0, .ref (adV 0)), (1, .int x1), (2, .int x2)]) hx hb dX1_comes_1 rfl hl (by decide) rfl (fun ls hl => ?_)
  refine lv_aload_n hx hb dX1_comes_2 rfl (lv_at hl 1 rfl) ?_
  refine b_get hx hb hts in_X1 hown hW 0 0 1 7 rfl vW_0 rfl (by decide) ⟨rfl, rfl, rfl⟩ (hts _ q153) vW_g7 dX1_comes_3 ?_
  refine lv_iload_n hx hb dX1_comes_6 rfl (lv_at hl 2 rfl) ?_
  obtain ⟨h1, hf⟩ := o_cs hf
  refine b_aald hx hb hW 0 8 5 rfl vW_8 rfl h1 dX1_comes_7 ?_
  refine b_split (fun hrf => by cases (o_opn hf hrf)) (fun a2 hrf => ?_)
  have hf := o_ops hf hrf
  obtain ⟨h3, hf⟩ := o_cs hf
  refine lv_aload_n hx hb dX1_comes_8 rfl (lv_at hl 1 rfl) ?_
  refine lv_aload_n hx hb dX1_comes_9 rfl (lv_at hl 1 rfl) ?_
  obtain ⟨r4, hc4, hf⟩ := o_b1s hf
  have hp4 : List.Perm [vW g adV V, gW L kd nu aa] ([vW g adV V] ++ [gW L kd nu aa]) := b_perm [0] [1] 2 rfl rfl rfl rfl
  refine b_call0 ⟨rfl, rfl⟩ (va_runV (As := []) (rest := [.ref (adV 0), .ref a2]) ⟨hx, hb, hml, hown, hts⟩ (m_X1_open l D g H.size adV fu V r4 hc4) (cwV 0 hts (lw_V q1162 q1164 qs21 q77 q1165) rfl rfl rfl (by decide +kernel) ⟨Nat.le_of_ble_eq_true rfl, Nat.le_of_ble_eq_true rfl⟩) (b_preV (pp := 0) (q := 0) hW hp4 rfl vW_0 rfl) rfl rfl hl.1 rfl (lv_room (Nat.le_of_ble_eq_true rfl)) dX1_comes_10 ⟨Nat.le_of_ble_eq_true rfl, Nat.le_of_ble_eq_true rfl⟩) hW hp4 (fun _ _ H locs hW => ?_)
  have hW : bW D g A s H locs [vW g adV V, gW L kd nu aa] := hW
  obtain ⟨r5, hc5, hf⟩ := o_b1s hf
  have hp5 : List.Perm [vW g adV V, gW L kd nu aa] ([vW g adV V, gW L kd nu aa] ++ []) := b_perm [0, 1] [] 2 rfl rfl rfl rfl
  refine b_gv_first ⟨hx, hb, hml, hown, hts⟩ (va_Nw.use rfl (hW.2.2.2.2.2.2.2.2.2.2.2.1 _ (List.mem_of_getElem? (i := 1) rfl))) hW hp5 1 rfl h3 hc5 ⟨Nat.le_of_ble_eq_true rfl, Nat.le_of_ble_eq_true rfl⟩ hl.1 (Nat.le_of_ble_eq_true rfl) ⟨Nat.le_of_ble_eq_true rfl, Nat.le_of_ble_eq_true rfl⟩ dX1_comes_13 (fun H locs hW => ?_)
  have hW : bW D g A s H locs [vW g adV V, gW L kd nu aa] := hW
  refine lv_istore (lv' := [(4, .int r5), (3, .int x2), (0, .ref (adV 0)), (1, .int x1), (2, .int x2)]) hx hb dX1_comes_16 hl (by decide) rfl (fun ls hl => ?_)
  obtain ⟨stp6, est6, hf⟩ := o_ln hf
  have L6 : ∀ (n : Nat) (v7 : Int32) (v8 : Int32) (V9 : BC) (H : Heap) (locs : List Loc) (ls : Array Slot), bW D g A s H locs [vW g adV V9, gW L kd nu aa] → lv_has ls 6 [(4, .int v8), (3, .int v7), (0, .ref (adV 0)), (1, .int x1)] → o_lp stp6 n (v7, v8, V9) = some VO → W p l e rm_X1_comes s m args below meth c H locs 0 0 Q (F0 m 18 ls []) := by
    intro n6
    induction n6 with
    | zero => intro v7 v8 V9 H locs ls hW hl hf; exact (o_lz hf).elim
    | succ n6 ih6 =>
      intro v7 v8 V9 H locs ls hW hl hf
      have hf := o_lu est6 hf
      rw [f_X1_comes_L18] at hf
      refine lv_iload_n hx hb dX1_comes_18 rfl (lv_at hl 1 rfl) ?_
      refine lv_if_le (tgt := 99) hx hb dX1_comes_19 (by decide) (fun c10 => ?_) (fun c10 => ?_)
      · have hf := o_t hf c10
        refine lv_aload_n hx hb dX1_comes_99 rfl (lv_at hl 2 rfl) ?_
        refine b_get hx hb hts in_X1 hown hW 0 0 1 11 rfl vW_0 rfl (by decide) ⟨rfl, rfl, rfl⟩ (hts _ q161) vW_g11 dX1_comes_100 ?_
        refine lv_iload_n hx hb dX1_comes_103 rfl (lv_at hl 3 rfl) ?_
        refine lv_dup2_11 hx hb dX1_comes_104 rfl rfl ?_
        refine b_iald hx hb hW 0 18 rfl vW_18 h1 dX1_comes_105 ?_
        refine lv_iload_n hx hb dX1_comes_106 rfl (lv_at hl 1 rfl) ?_
        refine lv_iadd hx hb dX1_comes_107 ?_
        obtain ⟨v11, ev11, hf⟩ := o_ls hf
        refine b_topi ev11 ?_
        obtain ⟨V12, eV12, hf⟩ := o_ls hf
        refine b_iast hx hb hW 0 18 rfl vW_18 (vW_s18 eV12) rfl h1 dX1_comes_108 (fun H locs hW => ?_)
        have hW : bW D g A s H locs [vW g adV V12, gW L kd nu aa] := hW
        cases hf
        exact b_vret hx hb hr hlk hE hW () rfl trivial rfl dX1_comes_109
      · have hf := o_f hf c10
        refine lv_iload hx hb dX1_comes_22 (lv_at hl 0 rfl) ?_
        refine lv_iconst (v := (-1)) hx hb dX1_comes_24 (by decide) ?_
        refine lv_icmp_eq (tgt := 99) hx hb dX1_comes_25 (by decide) (fun c13 => ?_) (fun c13 => ?_)
        · have hf := o_t hf c13
          refine lv_aload_n hx hb dX1_comes_99 rfl (lv_at hl 2 rfl) ?_
          refine b_get hx hb hts in_X1 hown hW 0 0 1 11 rfl vW_0 rfl (by decide) ⟨rfl, rfl, rfl⟩ (hts _ q161) vW_g11 dX1_comes_100 ?_
          refine lv_iload_n hx hb dX1_comes_103 rfl (lv_at hl 3 rfl) ?_
          refine lv_dup2_11 hx hb dX1_comes_104 rfl rfl ?_
          refine b_iald hx hb hW 0 18 rfl vW_18 h1 dX1_comes_105 ?_
          refine lv_iload_n hx hb dX1_comes_106 rfl (lv_at hl 1 rfl) ?_
          refine lv_iadd hx hb dX1_comes_107 ?_
          obtain ⟨v14, ev14, hf⟩ := o_ls hf
          refine b_topi ev14 ?_
          obtain ⟨V15, eV15, hf⟩ := o_ls hf
          refine b_iast hx hb hW 0 18 rfl vW_18 (vW_s18 eV15) rfl h1 dX1_comes_108 (fun H locs hW => ?_)
          have hW : bW D g A s H locs [vW g adV V15, gW L kd nu aa] := hW
          cases hf
          exact b_vret hx hb hr hlk hE hW () rfl trivial rfl dX1_comes_109
        · have hf := o_f hf c13
          refine lv_iload_n hx hb dX1_comes_28 rfl (lv_at hl 1 rfl) ?_
          refine lv_aload_n hx hb dX1_comes_29 rfl (lv_at hl 2 rfl) ?_
          refine b_get hx hb hts in_X1 hown hW 0 0 1 2 rfl vW_0 rfl (by decide) ⟨rfl, rfl, rfl⟩ (hts _ q134) vW_g2 dX1_comes_30 ?_
          refine lv_iload hx hb dX1_comes_33 (lv_at hl 0 rfl) ?_
          obtain ⟨h16, hf⟩ := o_cs hf
          refine b_iald hx hb hW 0 3 rfl vW_3 h16 dX1_comes_35 ?_
          refine lv_aload_n hx hb dX1_comes_36 rfl (lv_at hl 2 rfl) ?_
          refine b_get hx hb hts in_X1 hown hW 0 0 1 10 rfl vW_0 rfl (by decide) ⟨rfl, rfl, rfl⟩ (hts _ q159) vW_g10 dX1_comes_37 ?_
          refine lv_iload hx hb dX1_comes_40 (lv_at hl 0 rfl) ?_
          refine b_iald hx hb hW 0 17 rfl vW_17 h16 dX1_comes_42 ?_
          refine lv_isub hx hb dX1_comes_43 ?_
          refine va_mmin hx hb (by rw [hml]; exact hl.1.symm) hown (hts _ q1170) (hts _ q848) (hts _ q92) (hts _ q849) (Nat.le_of_ble_eq_true rfl) (Nat.le_of_ble_eq_true rfl) (Nat.le_of_ble_eq_true rfl) (Nat.le_of_ble_eq_true rfl) dX1_comes_44 ?_
          obtain ⟨v17, ev17, hf⟩ := o_ls hf
          refine b_topi ev17 ?_
          refine lv_istore (lv' := [(5, .int v17), (4, .int v8), (3, .int v7), (0, .ref (adV 0)), (1, .int x1)]) hx hb dX1_comes_47 hl (by decide) rfl (fun ls hl => ?_)
          refine lv_aload_n hx hb dX1_comes_49 rfl (lv_at hl 3 rfl) ?_
          refine b_get hx hb hts in_X1 hown hW 0 0 1 9 rfl vW_0 rfl (by decide) ⟨rfl, rfl, rfl⟩ (hts _ q157) vW_g9 dX1_comes_50 ?_
          refine lv_iload_n hx hb dX1_comes_53 rfl (lv_at hl 4 rfl) ?_
          refine b_agrI hx hb hW 0 10 rfl vW_10 h1 dX1_comes_54 ?_
          refine lv_iload hx hb dX1_comes_55 (lv_at hl 1 rfl) ?_
          refine lv_dup2_11 hx hb dX1_comes_57 rfl rfl ?_
          refine b_iald hx hb hW 0 (11 + ix x1) rfl (vW_r11 (inB_lt h1)) h16 dX1_comes_58 ?_
          refine lv_iload hx hb dX1_comes_59 (lv_at hl 0 rfl) ?_
          refine lv_iadd hx hb dX1_comes_61 ?_
          obtain ⟨v18, ev18, hf⟩ := o_ls hf
          refine b_topi ev18 ?_
          obtain ⟨V19, eV19, hf⟩ := o_ls hf
          refine b_iast hx hb hW 0 (11 + ix x1) rfl (vW_r11 (inB_lt h1)) (vW_rs11 (inB_lt h1) eV19) rfl h16 dX1_comes_62 (fun H locs hW => ?_)
          have hW : bW D g A s H locs [vW g adV V19, gW L kd nu aa] := hW
          refine lv_aload_n hx hb dX1_comes_63 rfl (lv_at hl 3 rfl) ?_
          refine b_get hx hb hts in_X1 hown hW 0 0 1 10 rfl vW_0 rfl (by decide) ⟨rfl, rfl, rfl⟩ (hts _ q159) vW_g10 dX1_comes_64 ?_
          refine lv_iload hx hb dX1_comes_67 (lv_at hl 1 rfl) ?_
          refine lv_dup2_11 hx hb dX1_comes_69 rfl rfl ?_
          refine b_iald hx hb hW 0 17 rfl vW_17 h16 dX1_comes_70 ?_
          refine lv_iload hx hb dX1_comes_71 (lv_at hl 0 rfl) ?_
          refine lv_iadd hx hb dX1_comes_73 ?_
          obtain ⟨v20, ev20, hf⟩ := o_ls hf
          refine b_topi ev20 ?_
          obtain ⟨V21, eV21, hf⟩ := o_ls hf
          refine b_iast hx hb hW 0 17 rfl vW_17 (vW_s17 eV21) rfl h16 dX1_comes_74 (fun H locs hW => ?_)
          have hW : bW D g A s H locs [vW g adV V21, gW L kd nu aa] := hW
          refine lv_iload_n hx hb dX1_comes_75 rfl (lv_at hl 2 rfl) ?_
          refine lv_iload hx hb dX1_comes_76 (lv_at hl 0 rfl) ?_
          refine lv_isub hx hb dX1_comes_78 ?_
          obtain ⟨v22, ev22, hf⟩ := o_ls hf
          refine b_topi ev22 ?_
          refine lv_istore_n (lv' := [(3, .int v22), (5, .int v17), (4, .int v8), (0, .ref (adV 0)), (1, .int x1)]) hx hb dX1_comes_79 rfl hl (by decide) rfl (fun ls hl => ?_)
          refine lv_aload_n hx hb dX1_comes_80 rfl (lv_at hl 3 rfl) ?_
          refine b_get hx hb hts in_X1 hown hW 0 0 1 7 rfl vW_0 rfl (by decide) ⟨rfl, rfl, rfl⟩ (hts _ q153) vW_g7 dX1_comes_81 ?_
          refine lv_iload_n hx hb dX1_comes_84 rfl (lv_at hl 4 rfl) ?_
          refine b_aald hx hb hW 0 8 5 rfl vW_8 rfl h1 dX1_comes_85 ?_
          refine b_split (fun hrf => by cases (o_opn hf hrf)) (fun a23 hrf => ?_)
          have hf := o_ops hf hrf
          obtain ⟨h24, hf⟩ := o_cs hf
          refine lv_aload_n hx hb dX1_comes_86 rfl (lv_at hl 3 rfl) ?_
          refine lv_aload_n hx hb dX1_comes_87 rfl (lv_at hl 3 rfl) ?_
          obtain ⟨r25, hc25, hf⟩ := o_b1s hf
          have hp25 : List.Perm [vW g adV V21, gW L kd nu aa] ([vW g adV V21] ++ [gW L kd nu aa]) := b_perm [0] [1] 2 rfl rfl rfl rfl
          refine b_call0 ⟨rfl, rfl⟩ (va_runV (As := []) (rest := [.ref (adV 0), .ref a23]) ⟨hx, hb, hml, hown, hts⟩ (m_X1_open l D g H.size adV fu V21 r25 hc25) (cwV 0 hts (lw_V q1162 q1164 qs21 q77 q1165) rfl rfl rfl (by decide +kernel) ⟨Nat.le_of_ble_eq_true rfl, Nat.le_of_ble_eq_true rfl⟩) (b_preV (pp := 0) (q := 0) hW hp25 rfl vW_0 rfl) rfl rfl hl.1 rfl (lv_room (Nat.le_of_ble_eq_true rfl)) dX1_comes_88 ⟨Nat.le_of_ble_eq_true rfl, Nat.le_of_ble_eq_true rfl⟩) hW hp25 (fun _ _ H locs hW => ?_)
          have hW : bW D g A s H locs [vW g adV V21, gW L kd nu aa] := hW
          obtain ⟨r26, hc26, hf⟩ := o_b1s hf
          have hp26 : List.Perm [vW g adV V21, gW L kd nu aa] ([vW g adV V21, gW L kd nu aa] ++ []) := b_perm [0, 1] [] 2 rfl rfl rfl rfl
          refine b_gv_first ⟨hx, hb, hml, hown, hts⟩ (va_Nw.use rfl (hW.2.2.2.2.2.2.2.2.2.2.2.1 _ (List.mem_of_getElem? (i := 1) rfl))) hW hp26 1 rfl h24 hc26 ⟨Nat.le_of_ble_eq_true rfl, Nat.le_of_ble_eq_true rfl⟩ hl.1 (Nat.le_of_ble_eq_true rfl) ⟨Nat.le_of_ble_eq_true rfl, Nat.le_of_ble_eq_true rfl⟩ dX1_comes_91 (fun H locs hW => ?_)
          have hW : bW D g A s H locs [vW g adV V21, gW L kd nu aa] := hW
          refine lv_istore (lv' := [(4, .int r26), (3, .int v22), (5, .int v17), (0, .ref (adV 0)), (1, .int x1)]) hx hb dX1_comes_94 hl (by decide) rfl (fun ls hl => ?_)
          refine lv_goto (tgt := 18) hx hb dX1_comes_96 (by decide) ?_
          exact ih6 _ _ _ _ _ _ hW (lv_sub hl [0, 1, 3, 4] rfl) hf
  exact L6 _ _ _ _ _ _ _ hW (lv_sub hl [0, 1, 2, 3] rfl) hf
def f_X1_night_L13 (L : List Nat) (kd : Nat → Nat) (nu : Nat → Int32) (aa : Nat → Int32) (fu : Nat) (v3 : Int32) (rec2 : (Int32 × BC) → Option BC) (rec6 : (Int32 × BC) → Option BC) : Int32 × BC → Option BC
  | (v7, V8) =>
    (if (V8.1 0 1) ≤ v7 then
     o_lt (v3 + 1) fun (v10 : Int32) =>
     rec2 (v10, V8)
     else
     o_ck (inB v7 6) (o_op (V8.2.1 8 (ix v7)) none fun (a12 : Nat) => o_ck (gIn L kd a12) (o_b1 (fg_late kd a12) fun (r14 : Int32) =>
     (if v3 = 1 then
     (if r14 = 1 then
     o_b1 (f_X1_comes fu V8 L kd nu aa v7 (V8.1 9 (ix v7))) fun (V22 : BC) =>
     o_lt (v7 + 1) fun (v23 : Int32) =>
     rec6 (v23, V22)
     else
     o_lt (v7 + 1) fun (v21 : Int32) =>
     rec6 (v21, V8))
     else
     (if r14 = 0 then
     o_b1 (f_X1_comes fu V8 L kd nu aa v7 (V8.1 9 (ix v7))) fun (V18 : BC) =>
     o_lt (v7 + 1) fun (v19 : Int32) =>
     rec6 (v19, V18)
     else
     o_lt (v7 + 1) fun (v17 : Int32) =>
     rec6 (v17, V8))))))
def f_X1_night_L6 (L : List Nat) (kd : Nat → Nat) (nu : Nat → Int32) (aa : Nat → Int32) (fu : Nat) (rec2 : (Int32 × BC) → Option BC) : Int32 × BC → Option BC
  | (v3, V4) =>
    (if (2 : Int32) ≤ v3 then
     some V4
     else
     o_lp (f_X1_night_L13 L kd nu aa fu v3 rec2) fu (0, V4))
def f_X1_night (fu : Nat) (V : BC) (L : List Nat) (kd : Nat → Nat) (nu : Nat → Int32) (aa : Nat → Int32) : Option BC :=
 o_b1 (f_X1_empties fu V) fun (V1 : BC) =>
 o_lp (f_X1_night_L6 L kd nu aa fu) fu (0, V1)
abbrev rm_X1_night : Room := { frames := 6, cells := 0, slots := 0, locals := 142 }
set_option maxHeartbeats 4000000 in
set_option maxRecDepth 100000 in
theorem m_X1_night (l : Launch) (D : va_G) (g : Nat → ClassId) (sz : Nat) (adV : Nat → Nat) (fu : Nat) (V : BC) (L : List Nat) (kd : Nat → Nat) (nu : Nat → Int32) (aa : Nat → Int32) (VO : BC) (hf : f_X1_night fu V L kd nu aa = some VO) : bMet (S := Unit) l yX1_night (ws_ yX1_night cX1_night 3 (some (.object "EverybodyHasTheBook$Valley"))) rm_X1_night D g sz [.ref (adV 0)] [vW g adV V, gW L kd nu aa] (fun _ => True) (fun _ => some (.ref (adV 0))) (fun _ => [vW g adV VO, gW L kd nu aa]) := by
  refine b_met (by decide) (Nat.le_of_ble_eq_true rfl) ?_
  intro p e s m args below meth c A Q ls hx hb hml hr hlk hown hname hts hE hl hW
  revert hW; generalize s.heap = H; intro hW
  have hl : lv_has ls 3 [(0, .ref (adV 0))] := hl
  rw [f_X1_night] at hf
  refine lv_aload_n hx hb dX1_night_0 rfl (lv_at hl 0 rfl) ?_
  obtain ⟨V1, hc1, hf⟩ := o_b1s hf
  have hp1 : List.Perm [vW g adV V, gW L kd nu aa] ([vW g adV V] ++ [gW L kd nu aa]) := b_perm [0] [1] 2 rfl rfl rfl rfl
  refine b_call0 ⟨rfl, rfl⟩ (va_runV (As := []) (rest := []) ⟨hx, hb, hml, hown, hts⟩ (m_X1_empties l D g H.size adV fu V V1 hc1) (cwV 0 hts (lw_V q1139 q1141 qs19 q77 q1142) rfl rfl rfl (by decide +kernel) ⟨Nat.le_of_ble_eq_true rfl, Nat.le_of_ble_eq_true rfl⟩) (b_preV (pp := 0) (q := 0) hW hp1 rfl vW_0 rfl) rfl rfl hl.1 rfl (lv_room (Nat.le_of_ble_eq_true rfl)) dX1_night_1 ⟨Nat.le_of_ble_eq_true rfl, Nat.le_of_ble_eq_true rfl⟩) hW hp1 (fun _ _ H locs hW => ?_)
  have hW : bW D g A s H locs [vW g adV V1, gW L kd nu aa] := hW
  refine lv_iconst (v := 0) hx hb dX1_night_4 (by decide) ?_
  refine lv_istore_n (lv' := [(1, .int 0), (0, .ref (adV 0))]) hx hb dX1_night_5 rfl hl (by decide) rfl (fun ls hl => ?_)
  obtain ⟨stp2, est2, hf⟩ := o_ln hf
  have L2 : ∀ (n : Nat) (v3 : Int32) (V4 : BC) (H : Heap) (locs : List Loc) (ls : Array Slot), bW D g A s H locs [vW g adV V4, gW L kd nu aa] → lv_has ls 3 [(1, .int v3), (0, .ref (adV 0))] → o_lp stp2 n (v3, V4) = some VO → W p l e rm_X1_night s m args below meth c H locs 0 0 Q (F0 m 6 ls []) := by
    intro n2
    induction n2 with
    | zero => intro v3 V4 H locs ls hW hl hf; exact (o_lz hf).elim
    | succ n2 ih2 =>
      intro v3 V4 H locs ls hW hl hf
      have hf := o_lu est2 hf
      rw [f_X1_night_L6] at hf
      refine lv_iload_n hx hb dX1_night_6 rfl (lv_at hl 0 rfl) ?_
      refine lv_iconst (v := 2) hx hb dX1_night_7 (by decide) ?_
      refine lv_icmp_ge (tgt := 66) hx hb dX1_night_8 (by decide) (fun c5 => ?_) (fun c5 => ?_)
      · have hf := o_t hf c5
        refine lv_aload_n hx hb dX1_night_66 rfl (lv_at hl 1 rfl) ?_
        cases hf
        exact b_aret hx hb hr (Or.inl ⟨_, rfl⟩) hlk hE hW () rfl trivial (Or.inr ⟨_, rfl⟩) rfl dX1_night_67
      · have hf := o_f hf c5
        refine lv_iconst (v := 0) hx hb dX1_night_11 (by decide) ?_
        refine lv_istore_n (lv' := [(2, .int 0), (1, .int v3), (0, .ref (adV 0))]) hx hb dX1_night_12 rfl hl (by decide) rfl (fun ls hl => ?_)
        obtain ⟨stp6, est6, hf⟩ := o_ln hf
        have L6 : ∀ (n : Nat) (v7 : Int32) (V8 : BC) (H : Heap) (locs : List Loc) (ls : Array Slot), bW D g A s H locs [vW g adV V8, gW L kd nu aa] → lv_has ls 3 [(2, .int v7), (1, .int v3), (0, .ref (adV 0))] → o_lp stp6 n (v7, V8) = some VO → W p l e rm_X1_night s m args below meth c H locs 0 0 Q (F0 m 13 ls []) := by
          intro n6
          induction n6 with
          | zero => intro v7 V8 H locs ls hW hl hf; exact (o_lz hf).elim
          | succ n6 ih6 =>
            intro v7 V8 H locs ls hW hl hf
            have hf := o_lu est6 hf
            rw [f_X1_night_L13] at hf
            refine lv_iload_n hx hb dX1_night_13 rfl (lv_at hl 0 rfl) ?_
            refine lv_aload_n hx hb dX1_night_14 rfl (lv_at hl 2 rfl) ?_
            refine b_get hx hb hts in_X1 hown hW 0 0 1 13 rfl vW_0 rfl (by decide) ⟨rfl, rfl, rfl⟩ (hts _ q168) vW_g13 dX1_night_15 ?_
            refine lv_icmp_ge (tgt := 60) hx hb dX1_night_18 (by decide) (fun c9 => ?_) (fun c9 => ?_)
            · have hf := o_t hf c9
              obtain ⟨v10, ev10, hf⟩ := o_ls hf
              refine lv_iinc (v := v10) (lv' := [(1, .int v10), (2, .int v7), (0, .ref (adV 0))]) hx hb dX1_night_60 hl (k := 1) rfl ev10 (by decide) rfl (fun ls hl => ?_)
              refine lv_goto (tgt := 6) hx hb dX1_night_63 (by decide) ?_
              exact ih2 _ _ _ _ _ hW (lv_sub hl [0, 2] rfl) hf
            · have hf := o_f hf c9
              refine lv_aload_n hx hb dX1_night_21 rfl (lv_at hl 2 rfl) ?_
              refine b_get hx hb hts in_X1 hown hW 0 0 1 7 rfl vW_0 rfl (by decide) ⟨rfl, rfl, rfl⟩ (hts _ q153) vW_g7 dX1_night_22 ?_
              refine lv_iload_n hx hb dX1_night_25 rfl (lv_at hl 0 rfl) ?_
              obtain ⟨h11, hf⟩ := o_cs hf
              refine b_aald hx hb hW 0 8 5 rfl vW_8 rfl h11 dX1_night_26 ?_
              refine b_split (fun hrf => by cases (o_opn hf hrf)) (fun a12 hrf => ?_)
              have hf := o_ops hf hrf
              obtain ⟨h13, hf⟩ := o_cs hf
              obtain ⟨r14, hc14, hf⟩ := o_b1s hf
              have hp14 : List.Perm [vW g adV V8, gW L kd nu aa] ([] ++ [vW g adV V8, gW L kd nu aa]) := b_perm [] [0, 1] 2 rfl rfl rfl rfl
              refine b_gv_late ⟨hx, hb, hml, hown, hts⟩ q1146 hW hp14 1 rfl h13 hc14 ⟨Nat.le_of_ble_eq_true rfl, Nat.le_of_ble_eq_true rfl⟩ hl.1 (Nat.le_of_ble_eq_true rfl) ⟨Nat.le_of_ble_eq_true rfl, Nat.le_of_ble_eq_true rfl⟩ dX1_night_27 (fun H locs hW => ?_)
              have hW : bW D g A s H locs [vW g adV V8, gW L kd nu aa] := hW
              refine lv_iload_n hx hb dX1_night_30 rfl (lv_at hl 1 rfl) ?_
              refine lv_iconst (v := 1) hx hb dX1_night_31 (by decide) ?_
              refine lv_icmp_ne (tgt := 39) hx hb dX1_night_32 (by decide) (fun c15 => ?_) (fun c15 => ?_)
              · have hf := o_f hf c15
                refine lv_iconst (v := 0) hx hb dX1_night_39 (by decide) ?_
                refine lv_icmp_ne (tgt := 54) hx hb dX1_night_40 (by decide) (fun c16 => ?_) (fun c16 => ?_)
                · have hf := o_f hf c16
                  obtain ⟨v17, ev17, hf⟩ := o_ls hf
                  refine lv_iinc (v := v17) (lv' := [(2, .int v17), (1, .int v3), (0, .ref (adV 0))]) hx hb dX1_night_54 hl (k := 0) rfl ev17 (by decide) rfl (fun ls hl => ?_)
                  refine lv_goto (tgt := 13) hx hb dX1_night_57 (by decide) ?_
                  exact ih6 _ _ _ _ _ hW (lv_sub hl [0, 1, 2] rfl) hf
                · have hf := o_t hf c16
                  refine lv_aload_n hx hb dX1_night_43 rfl (lv_at hl 2 rfl) ?_
                  refine lv_iload_n hx hb dX1_night_44 rfl (lv_at hl 0 rfl) ?_
                  refine lv_aload_n hx hb dX1_night_45 rfl (lv_at hl 2 rfl) ?_
                  refine b_get hx hb hts in_X1 hown hW 0 0 1 8 rfl vW_0 rfl (by decide) ⟨rfl, rfl, rfl⟩ (hts _ q155) vW_g8 dX1_night_46 ?_
                  refine lv_iload_n hx hb dX1_night_49 rfl (lv_at hl 0 rfl) ?_
                  refine b_iald hx hb hW 0 9 rfl vW_9 h11 dX1_night_50 ?_
                  obtain ⟨V18, hc18, hf⟩ := o_b1s hf
                  have hp18 : List.Perm [vW g adV V8, gW L kd nu aa] ([vW g adV V8, gW L kd nu aa] ++ []) := b_perm [0, 1] [] 2 rfl rfl rfl rfl
                  refine b_call0 ⟨rfl, rfl⟩ (va_runV (As := [.int v7, .int (V8.1 9 (ix v7))]) (rest := []) ⟨hx, hb, hml, hown, hts⟩ (m_X1_comes l D g H.size adV fu V8 L kd nu aa v7 (V8.1 9 (ix v7)) V18 hc18) (cwV 2 hts (lw_V q1158 q1160 qs20 q77 q1161) rfl rfl rfl (by decide +kernel) ⟨Nat.le_of_ble_eq_true rfl, Nat.le_of_ble_eq_true rfl⟩) (b_preV (pp := 0) (q := 0) hW hp18 rfl vW_0 rfl) rfl rfl hl.1 rfl (lv_room (Nat.le_of_ble_eq_true rfl)) dX1_night_51 ⟨Nat.le_of_ble_eq_true rfl, Nat.le_of_ble_eq_true rfl⟩) hW hp18 (fun _ _ H locs hW => ?_)
                  have hW : bW D g A s H locs [vW g adV V18, gW L kd nu aa] := hW
                  obtain ⟨v19, ev19, hf⟩ := o_ls hf
                  refine lv_iinc (v := v19) (lv' := [(2, .int v19), (1, .int v3), (0, .ref (adV 0))]) hx hb dX1_night_54 hl (k := 0) rfl ev19 (by decide) rfl (fun ls hl => ?_)
                  refine lv_goto (tgt := 13) hx hb dX1_night_57 (by decide) ?_
                  exact ih6 _ _ _ _ _ hW (lv_sub hl [0, 1, 2] rfl) hf
              · have hf := o_t hf c15
                refine lv_iconst (v := 1) hx hb dX1_night_35 (by decide) ?_
                refine lv_goto (tgt := 40) hx hb dX1_night_36 (by decide) ?_
                refine lv_icmp_ne (tgt := 54) hx hb dX1_night_40 (by decide) (fun c20 => ?_) (fun c20 => ?_)
                · have hf := o_f hf c20
                  obtain ⟨v21, ev21, hf⟩ := o_ls hf
                  refine lv_iinc (v := v21) (lv' := [(2, .int v21), (1, .int v3), (0, .ref (adV 0))]) hx hb dX1_night_54 hl (k := 0) rfl ev21 (by decide) rfl (fun ls hl => ?_)
                  refine lv_goto (tgt := 13) hx hb dX1_night_57 (by decide) ?_
                  exact ih6 _ _ _ _ _ hW (lv_sub hl [0, 1, 2] rfl) hf
                · have hf := o_t hf c20
                  refine lv_aload_n hx hb dX1_night_43 rfl (lv_at hl 2 rfl) ?_
                  refine lv_iload_n hx hb dX1_night_44 rfl (lv_at hl 0 rfl) ?_
                  refine lv_aload_n hx hb dX1_night_45 rfl (lv_at hl 2 rfl) ?_
                  refine b_get hx hb hts in_X1 hown hW 0 0 1 8 rfl vW_0 rfl (by decide) ⟨rfl, rfl, rfl⟩ (hts _ q155) vW_g8 dX1_night_46 ?_
                  refine lv_iload_n hx hb dX1_night_49 rfl (lv_at hl 0 rfl) ?_
                  refine b_iald hx hb hW 0 9 rfl vW_9 h11 dX1_night_50 ?_
                  obtain ⟨V22, hc22, hf⟩ := o_b1s hf
                  have hp22 : List.Perm [vW g adV V8, gW L kd nu aa] ([vW g adV V8, gW L kd nu aa] ++ []) := b_perm [0, 1] [] 2 rfl rfl rfl rfl
                  refine b_call0 ⟨rfl, rfl⟩ (va_runV (As := [.int v7, .int (V8.1 9 (ix v7))]) (rest := []) ⟨hx, hb, hml, hown, hts⟩ (m_X1_comes l D g H.size adV fu V8 L kd nu aa v7 (V8.1 9 (ix v7)) V22 hc22) (cwV 2 hts (lw_V q1158 q1160 qs20 q77 q1161) rfl rfl rfl (by decide +kernel) ⟨Nat.le_of_ble_eq_true rfl, Nat.le_of_ble_eq_true rfl⟩) (b_preV (pp := 0) (q := 0) hW hp22 rfl vW_0 rfl) rfl rfl hl.1 rfl (lv_room (Nat.le_of_ble_eq_true rfl)) dX1_night_51 ⟨Nat.le_of_ble_eq_true rfl, Nat.le_of_ble_eq_true rfl⟩) hW hp22 (fun _ _ H locs hW => ?_)
                  have hW : bW D g A s H locs [vW g adV V22, gW L kd nu aa] := hW
                  obtain ⟨v23, ev23, hf⟩ := o_ls hf
                  refine lv_iinc (v := v23) (lv' := [(2, .int v23), (1, .int v3), (0, .ref (adV 0))]) hx hb dX1_night_54 hl (k := 0) rfl ev23 (by decide) rfl (fun ls hl => ?_)
                  refine lv_goto (tgt := 13) hx hb dX1_night_57 (by decide) ?_
                  exact ih6 _ _ _ _ _ hW (lv_sub hl [0, 1, 2] rfl) hf
        exact L6 _ _ _ _ _ _ hW (lv_sub hl [0, 1, 2] rfl) hf
  exact L2 _ _ _ _ _ _ hW (lv_sub hl [0, 1] rfl) hf
def f_X1_night_2_L14 (L : List Nat) (kd : Nat → Nat) (nu : Nat → Int32) (aa : Nat → Int32) (x1 : Int32) (x2 : Int32) (fu : Nat) (v3 : Int32) (rec2 : (Int32 × BC) → Option BC) (rec6 : (Int32 × BC) → Option BC) : Int32 × BC → Option BC
  | (v7, V8) =>
    (if (V8.1 0 1) ≤ v7 then
     o_lt (v3 + 1) fun (v10 : Int32) =>
     rec2 (v10, V8)
     else
     o_ck (inB v7 6) (o_op (V8.2.1 8 (ix v7)) none fun (a12 : Nat) => o_ck (gIn L kd a12) (o_lt ((if gBk (kd a12) = true then 1 else 0)) fun (v14 : Int32) =>
     (if v14 = 0 then
     o_op (V8.2.1 8 (ix v7)) none fun (a16 : Nat) => o_ck (gIn L kd a16) (o_b1 (fg_late kd a16) fun (r18 : Int32) =>
     (if v3 = 1 then
     (if r18 = 1 then
     o_b1 (f_X1_writes fu V8 x1) fun (V29 : BC) =>
     o_b1 (f_X1_comes fu V29 L kd nu aa v7 ((V29.1 9 (ix v7)) - 0)) fun (V30 : BC) =>
     o_b1 (f_X1_writes fu V30 x2) fun (V31 : BC) =>
     o_b1 (f_X1_comes fu V31 L kd nu aa v7 0) fun (V32 : BC) =>
     o_lt (v7 + 1) fun (v33 : Int32) =>
     rec6 (v33, V32)
     else
     o_lt (v7 + 1) fun (v28 : Int32) =>
     rec6 (v28, V8))
     else
     (if r18 = 0 then
     o_b1 (f_X1_writes fu V8 x1) fun (V22 : BC) =>
     o_b1 (f_X1_comes fu V22 L kd nu aa v7 ((V22.1 9 (ix v7)) - 0)) fun (V23 : BC) =>
     o_b1 (f_X1_writes fu V23 x2) fun (V24 : BC) =>
     o_b1 (f_X1_comes fu V24 L kd nu aa v7 0) fun (V25 : BC) =>
     o_lt (v7 + 1) fun (v26 : Int32) =>
     rec6 (v26, V25)
     else
     o_lt (v7 + 1) fun (v21 : Int32) =>
     rec6 (v21, V8))))
     else
     o_lt ((V8.1 9 (ix v7)) / 2) fun (v34 : Int32) =>
     o_op (V8.2.1 8 (ix v7)) none fun (a35 : Nat) => o_ck (gIn L kd a35) (o_b1 (fg_late kd a35) fun (r37 : Int32) =>
     (if v3 = 1 then
     (if r37 = 1 then
     o_b1 (f_X1_writes fu V8 x1) fun (V48 : BC) =>
     o_b1 (f_X1_comes fu V48 L kd nu aa v7 ((V48.1 9 (ix v7)) - v34)) fun (V49 : BC) =>
     o_b1 (f_X1_writes fu V49 x2) fun (V50 : BC) =>
     o_b1 (f_X1_comes fu V50 L kd nu aa v7 v34) fun (V51 : BC) =>
     o_lt (v7 + 1) fun (v52 : Int32) =>
     rec6 (v52, V51)
     else
     o_lt (v7 + 1) fun (v47 : Int32) =>
     rec6 (v47, V8))
     else
     (if r37 = 0 then
     o_b1 (f_X1_writes fu V8 x1) fun (V41 : BC) =>
     o_b1 (f_X1_comes fu V41 L kd nu aa v7 ((V41.1 9 (ix v7)) - v34)) fun (V42 : BC) =>
     o_b1 (f_X1_writes fu V42 x2) fun (V43 : BC) =>
     o_b1 (f_X1_comes fu V43 L kd nu aa v7 v34) fun (V44 : BC) =>
     o_lt (v7 + 1) fun (v45 : Int32) =>
     rec6 (v45, V44)
     else
     o_lt (v7 + 1) fun (v40 : Int32) =>
     rec6 (v40, V8))))))))
def f_X1_night_2_L6 (L : List Nat) (kd : Nat → Nat) (nu : Nat → Int32) (aa : Nat → Int32) (x1 : Int32) (x2 : Int32) (fu : Nat) (rec2 : (Int32 × BC) → Option BC) : Int32 × BC → Option BC
  | (v3, V4) =>
    (if (2 : Int32) ≤ v3 then
     some V4
     else
     o_lp (f_X1_night_2_L14 L kd nu aa x1 x2 fu v3 rec2) fu (0, V4))
def f_X1_night_2 (fu : Nat) (V : BC) (L : List Nat) (kd : Nat → Nat) (nu : Nat → Int32) (aa : Nat → Int32) (x1 : Int32) (x2 : Int32) : Option BC :=
 o_b1 (f_X1_empties fu V) fun (V1 : BC) =>
 o_lp (f_X1_night_2_L6 L kd nu aa x1 x2 fu) fu (0, V1)
abbrev rm_X1_night_2 : Room := { frames := 6, cells := 0, slots := 0, locals := 142 }
set_option maxHeartbeats 4000000 in
set_option maxRecDepth 100000 in
theorem m_X1_night_2 (l : Launch) (D : va_G) (g : Nat → ClassId) (sz : Nat) (adV : Nat → Nat) (fu : Nat) (V : BC) (L : List Nat) (kd : Nat → Nat) (nu : Nat → Int32) (aa : Nat → Int32) (x1 : Int32) (x2 : Int32) (VO : BC) (hf : f_X1_night_2 fu V L kd nu aa x1 x2 = some VO) : bMet (S := Unit) l yX1_night_2 (ws_ yX1_night_2 cX1_night_2 6 (some (.object "EverybodyHasTheBook$Valley"))) rm_X1_night_2 D g sz [.ref (adV 0), .int x1, .int x2] [vW g adV V, gW L kd nu aa] (fun _ => True) (fun _ => some (.ref (adV 0))) (fun _ => [vW g adV VO, gW L kd nu aa]) := by
  refine b_met (by decide) (Nat.le_of_ble_eq_true rfl) ?_
  intro p e s m args below meth c A Q ls hx hb hml hr hlk hown hname hts hE hl hW
  revert hW; generalize s.heap = H; intro hW
  have hl : lv_has ls 6 [(0, .ref (adV 0)), (1, .int x1), (2, .int x2)] := hl
  rw [f_X1_night_2] at hf
  refine lv_aload_n hx hb dX1_night_2_0 rfl (lv_at hl 0 rfl) ?_
  obtain ⟨V1, hc1, hf⟩ := o_b1s hf
  have hp1 : List.Perm [vW g adV V, gW L kd nu aa] ([vW g adV V] ++ [gW L kd nu aa]) := b_perm [0] [1] 2 rfl rfl rfl rfl
  refine b_call0 ⟨rfl, rfl⟩ (va_runV (As := []) (rest := []) ⟨hx, hb, hml, hown, hts⟩ (m_X1_empties l D g H.size adV fu V V1 hc1) (cwV 0 hts (lw_V q1139 q1141 qs19 q77 q1142) rfl rfl rfl (by decide +kernel) ⟨Nat.le_of_ble_eq_true rfl, Nat.le_of_ble_eq_true rfl⟩) (b_preV (pp := 0) (q := 0) hW hp1 rfl vW_0 rfl) rfl rfl hl.1 rfl (lv_room (Nat.le_of_ble_eq_true rfl)) dX1_night_2_1 ⟨Nat.le_of_ble_eq_true rfl, Nat.le_of_ble_eq_true rfl⟩) hW hp1 (fun _ _ H locs hW => ?_)
  have hW : bW D g A s H locs [vW g adV V1, gW L kd nu aa] := hW
  refine lv_iconst (v := 0) hx hb dX1_night_2_4 (by decide) ?_
  refine lv_istore_n (lv' := [(3, .int 0), (0, .ref (adV 0)), (1, .int x1), (2, .int x2)]) hx hb dX1_night_2_5 rfl hl (by decide) rfl (fun ls hl => ?_)
  obtain ⟨stp2, est2, hf⟩ := o_ln hf
  have L2 : ∀ (n : Nat) (v3 : Int32) (V4 : BC) (H : Heap) (locs : List Loc) (ls : Array Slot), bW D g A s H locs [vW g adV V4, gW L kd nu aa] → lv_has ls 6 [(3, .int v3), (0, .ref (adV 0)), (1, .int x1), (2, .int x2)] → o_lp stp2 n (v3, V4) = some VO → W p l e rm_X1_night_2 s m args below meth c H locs 0 0 Q (F0 m 6 ls []) := by
    intro n2
    induction n2 with
    | zero => intro v3 V4 H locs ls hW hl hf; exact (o_lz hf).elim
    | succ n2 ih2 =>
      intro v3 V4 H locs ls hW hl hf
      have hf := o_lu est2 hf
      rw [f_X1_night_2_L6] at hf
      refine lv_iload_n hx hb dX1_night_2_6 rfl (lv_at hl 0 rfl) ?_
      refine lv_iconst (v := 2) hx hb dX1_night_2_7 (by decide) ?_
      refine lv_icmp_ge (tgt := 120) hx hb dX1_night_2_8 (by decide) (fun c5 => ?_) (fun c5 => ?_)
      · have hf := o_t hf c5
        refine lv_aload_n hx hb dX1_night_2_120 rfl (lv_at hl 1 rfl) ?_
        cases hf
        exact b_aret hx hb hr (Or.inl ⟨_, rfl⟩) hlk hE hW () rfl trivial (Or.inr ⟨_, rfl⟩) rfl dX1_night_2_121
      · have hf := o_f hf c5
        refine lv_iconst (v := 0) hx hb dX1_night_2_11 (by decide) ?_
        refine lv_istore (lv' := [(4, .int 0), (3, .int v3), (0, .ref (adV 0)), (1, .int x1), (2, .int x2)]) hx hb dX1_night_2_12 hl (by decide) rfl (fun ls hl => ?_)
        obtain ⟨stp6, est6, hf⟩ := o_ln hf
        have L6 : ∀ (n : Nat) (v7 : Int32) (V8 : BC) (H : Heap) (locs : List Loc) (ls : Array Slot), bW D g A s H locs [vW g adV V8, gW L kd nu aa] → lv_has ls 6 [(4, .int v7), (3, .int v3), (0, .ref (adV 0)), (1, .int x1), (2, .int x2)] → o_lp stp6 n (v7, V8) = some VO → W p l e rm_X1_night_2 s m args below meth c H locs 0 0 Q (F0 m 14 ls []) := by
          intro n6
          induction n6 with
          | zero => intro v7 V8 H locs ls hW hl hf; exact (o_lz hf).elim
          | succ n6 ih6 =>
            intro v7 V8 H locs ls hW hl hf
            have hf := o_lu est6 hf
            rw [f_X1_night_2_L14] at hf
            refine lv_iload hx hb dX1_night_2_14 (lv_at hl 0 rfl) ?_
            refine lv_aload_n hx hb dX1_night_2_16 rfl (lv_at hl 2 rfl) ?_
            refine b_get hx hb hts in_X1 hown hW 0 0 1 13 rfl vW_0 rfl (by decide) ⟨rfl, rfl, rfl⟩ (hts _ q168) vW_g13 dX1_night_2_17 ?_
            refine lv_icmp_ge (tgt := 114) hx hb dX1_night_2_20 (by decide) (fun c9 => ?_) (fun c9 => ?_)
            · have hf := o_t hf c9
              obtain ⟨v10, ev10, hf⟩ := o_ls hf
              refine lv_iinc (v := v10) (lv' := [(3, .int v10), (4, .int v7), (0, .ref (adV 0)), (1, .int x1), (2, .int x2)]) hx hb dX1_night_2_114 hl (k := 1) rfl ev10 (by decide) rfl (fun ls hl => ?_)
              refine lv_goto (tgt := 6) hx hb dX1_night_2_117 (by decide) ?_
              exact ih2 _ _ _ _ _ hW (lv_sub hl [0, 2, 3, 4] rfl) hf
            · have hf := o_f hf c9
              refine lv_aload_n hx hb dX1_night_2_23 rfl (lv_at hl 2 rfl) ?_
              refine b_get hx hb hts in_X1 hown hW 0 0 1 7 rfl vW_0 rfl (by decide) ⟨rfl, rfl, rfl⟩ (hts _ q153) vW_g7 dX1_night_2_24 ?_
              refine lv_iload hx hb dX1_night_2_27 (lv_at hl 0 rfl) ?_
              obtain ⟨h11, hf⟩ := o_cs hf
              refine b_aald hx hb hW 0 8 5 rfl vW_8 rfl h11 dX1_night_2_29 ?_
              refine b_split (fun hrf => by cases (o_opn hf hrf)) (fun a12 hrf => ?_)
              have hf := o_ops hf hrf
              obtain ⟨h13, hf⟩ := o_cs hf
              refine b_instG hx hb hown (hts _ q1257) hW 1 rfl h13 gBk g_tbB dX1_night_2_30 ?_
              obtain ⟨v14, ev14, hf⟩ := o_ls hf
              refine b_topi ev14 ?_
              refine lv_if_eq (tgt := 48) hx hb dX1_night_2_33 (by decide) (fun c15 => ?_) (fun c15 => ?_)
              · have hf := o_t hf c15
                refine lv_iconst (v := 0) hx hb dX1_night_2_48 (by decide) ?_
                refine lv_istore (lv' := [(5, .int 0), (4, .int v7), (3, .int v3), (0, .ref (adV 0)), (1, .int x1), (2, .int x2)]) hx hb dX1_night_2_49 hl (by decide) rfl (fun ls hl => ?_)
                refine lv_aload_n hx hb dX1_night_2_51 rfl (lv_at hl 3 rfl) ?_
                refine b_get hx hb hts in_X1 hown hW 0 0 1 7 rfl vW_0 rfl (by decide) ⟨rfl, rfl, rfl⟩ (hts _ q153) vW_g7 dX1_night_2_52 ?_
                refine lv_iload hx hb dX1_night_2_55 (lv_at hl 1 rfl) ?_
                refine b_aald hx hb hW 0 8 5 rfl vW_8 rfl h11 dX1_night_2_57 ?_
                refine b_split (fun hrf => by cases (o_opn hf hrf)) (fun a16 hrf => ?_)
                have hf := o_ops hf hrf
                obtain ⟨h17, hf⟩ := o_cs hf
                obtain ⟨r18, hc18, hf⟩ := o_b1s hf
                have hp18 : List.Perm [vW g adV V8, gW L kd nu aa] ([] ++ [vW g adV V8, gW L kd nu aa]) := b_perm [] [0, 1] 2 rfl rfl rfl rfl
                refine b_gv_late ⟨hx, hb, hml, hown, hts⟩ q1146 hW hp18 1 rfl h17 hc18 ⟨Nat.le_of_ble_eq_true rfl, Nat.le_of_ble_eq_true rfl⟩ hl.1 (Nat.le_of_ble_eq_true rfl) ⟨Nat.le_of_ble_eq_true rfl, Nat.le_of_ble_eq_true rfl⟩ dX1_night_2_58 (fun H locs hW => ?_)
                have hW : bW D g A s H locs [vW g adV V8, gW L kd nu aa] := hW
                refine lv_iload_n hx hb dX1_night_2_61 rfl (lv_at hl 2 rfl) ?_
                refine lv_iconst (v := 1) hx hb dX1_night_2_62 (by decide) ?_
                refine lv_icmp_ne (tgt := 70) hx hb dX1_night_2_63 (by decide) (fun c19 => ?_) (fun c19 => ?_)
                · have hf := o_f hf c19
                  refine lv_iconst (v := 0) hx hb dX1_night_2_70 (by decide) ?_
                  refine lv_icmp_ne (tgt := 108) hx hb dX1_night_2_71 (by decide) (fun c20 => ?_) (fun c20 => ?_)
                  · have hf := o_f hf c20
                    obtain ⟨v21, ev21, hf⟩ := o_ls hf
                    refine lv_iinc (v := v21) (lv' := [(4, .int v21), (5, .int 0), (3, .int v3), (0, .ref (adV 0)), (1, .int x1), (2, .int x2)]) hx hb dX1_night_2_108 hl (k := 1) rfl ev21 (by decide) rfl (fun ls hl => ?_)
                    refine lv_goto (tgt := 14) hx hb dX1_night_2_111 (by decide) ?_
                    exact ih6 _ _ _ _ _ hW (lv_sub hl [0, 2, 3, 4, 5] rfl) hf
                  · have hf := o_t hf c20
                    refine lv_aload_n hx hb dX1_night_2_74 rfl (lv_at hl 3 rfl) ?_
                    refine lv_iload_n hx hb dX1_night_2_75 rfl (lv_at hl 4 rfl) ?_
                    obtain ⟨V22, hc22, hf⟩ := o_b1s hf
                    have hp22 : List.Perm [vW g adV V8, gW L kd nu aa] ([vW g adV V8] ++ [gW L kd nu aa]) := b_perm [0] [1] 2 rfl rfl rfl rfl
                    refine b_call0 ⟨rfl, rfl⟩ (va_runV (As := [.int x1]) (rest := []) ⟨hx, hb, hml, hown, hts⟩ (m_X1_writes l D g H.size adV fu V8 x1 V22 hc22) (cwV 1 hts (lw_V q1258 q686 q687 q77 q688) rfl rfl rfl (by decide +kernel) ⟨Nat.le_of_ble_eq_true rfl, Nat.le_of_ble_eq_true rfl⟩) (b_preV (pp := 0) (q := 0) hW hp22 rfl vW_0 rfl) rfl rfl hl.1 rfl (lv_room (Nat.le_of_ble_eq_true rfl)) dX1_night_2_76 ⟨Nat.le_of_ble_eq_true rfl, Nat.le_of_ble_eq_true rfl⟩) hW hp22 (fun _ _ H locs hW => ?_)
                    have hW : bW D g A s H locs [vW g adV V22, gW L kd nu aa] := hW
                    refine lv_aload_n hx hb dX1_night_2_79 rfl (lv_at hl 3 rfl) ?_
                    refine lv_iload hx hb dX1_night_2_80 (lv_at hl 1 rfl) ?_
                    refine lv_aload_n hx hb dX1_night_2_82 rfl (lv_at hl 3 rfl) ?_
                    refine b_get hx hb hts in_X1 hown hW 0 0 1 8 rfl vW_0 rfl (by decide) ⟨rfl, rfl, rfl⟩ (hts _ q155) vW_g8 dX1_night_2_83 ?_
                    refine lv_iload hx hb dX1_night_2_86 (lv_at hl 1 rfl) ?_
                    refine b_iald hx hb hW 0 9 rfl vW_9 h11 dX1_night_2_88 ?_
                    refine lv_iload hx hb dX1_night_2_89 (lv_at hl 0 rfl) ?_
                    refine lv_isub hx hb dX1_night_2_91 ?_
                    obtain ⟨V23, hc23, hf⟩ := o_b1s hf
                    have hp23 : List.Perm [vW g adV V22, gW L kd nu aa] ([vW g adV V22, gW L kd nu aa] ++ []) := b_perm [0, 1] [] 2 rfl rfl rfl rfl
                    refine b_call0 ⟨rfl, rfl⟩ (va_runV (As := [.int v7, .int ((V22.1 9 (ix v7)) - 0)]) (rest := []) ⟨hx, hb, hml, hown, hts⟩ (m_X1_comes l D g H.size adV fu V22 L kd nu aa v7 ((V22.1 9 (ix v7)) - 0) V23 hc23) (cwV 2 hts (lw_V q1158 q1160 qs20 q77 q1161) rfl rfl rfl (by decide +kernel) ⟨Nat.le_of_ble_eq_true rfl, Nat.le_of_ble_eq_true rfl⟩) (b_preV (pp := 0) (q := 0) hW hp23 rfl vW_0 rfl) rfl rfl hl.1 rfl (lv_room (Nat.le_of_ble_eq_true rfl)) dX1_night_2_92 ⟨Nat.le_of_ble_eq_true rfl, Nat.le_of_ble_eq_true rfl⟩) hW hp23 (fun _ _ H locs hW => ?_)
                    have hW : bW D g A s H locs [vW g adV V23, gW L kd nu aa] := hW
                    refine lv_aload_n hx hb dX1_night_2_95 rfl (lv_at hl 3 rfl) ?_
                    refine lv_iload_n hx hb dX1_night_2_96 rfl (lv_at hl 5 rfl) ?_
                    obtain ⟨V24, hc24, hf⟩ := o_b1s hf
                    have hp24 : List.Perm [vW g adV V23, gW L kd nu aa] ([vW g adV V23] ++ [gW L kd nu aa]) := b_perm [0] [1] 2 rfl rfl rfl rfl
                    refine b_call0 ⟨rfl, rfl⟩ (va_runV (As := [.int x2]) (rest := []) ⟨hx, hb, hml, hown, hts⟩ (m_X1_writes l D g H.size adV fu V23 x2 V24 hc24) (cwV 1 hts (lw_V q1258 q686 q687 q77 q688) rfl rfl rfl (by decide +kernel) ⟨Nat.le_of_ble_eq_true rfl, Nat.le_of_ble_eq_true rfl⟩) (b_preV (pp := 0) (q := 0) hW hp24 rfl vW_0 rfl) rfl rfl hl.1 rfl (lv_room (Nat.le_of_ble_eq_true rfl)) dX1_night_2_97 ⟨Nat.le_of_ble_eq_true rfl, Nat.le_of_ble_eq_true rfl⟩) hW hp24 (fun _ _ H locs hW => ?_)
                    have hW : bW D g A s H locs [vW g adV V24, gW L kd nu aa] := hW
                    refine lv_aload_n hx hb dX1_night_2_100 rfl (lv_at hl 3 rfl) ?_
                    refine lv_iload hx hb dX1_night_2_101 (lv_at hl 1 rfl) ?_
                    refine lv_iload hx hb dX1_night_2_103 (lv_at hl 0 rfl) ?_
                    obtain ⟨V25, hc25, hf⟩ := o_b1s hf
                    have hp25 : List.Perm [vW g adV V24, gW L kd nu aa] ([vW g adV V24, gW L kd nu aa] ++ []) := b_perm [0, 1] [] 2 rfl rfl rfl rfl
                    refine b_call0 ⟨rfl, rfl⟩ (va_runV (As := [.int v7, .int 0]) (rest := []) ⟨hx, hb, hml, hown, hts⟩ (m_X1_comes l D g H.size adV fu V24 L kd nu aa v7 0 V25 hc25) (cwV 2 hts (lw_V q1158 q1160 qs20 q77 q1161) rfl rfl rfl (by decide +kernel) ⟨Nat.le_of_ble_eq_true rfl, Nat.le_of_ble_eq_true rfl⟩) (b_preV (pp := 0) (q := 0) hW hp25 rfl vW_0 rfl) rfl rfl hl.1 rfl (lv_room (Nat.le_of_ble_eq_true rfl)) dX1_night_2_105 ⟨Nat.le_of_ble_eq_true rfl, Nat.le_of_ble_eq_true rfl⟩) hW hp25 (fun _ _ H locs hW => ?_)
                    have hW : bW D g A s H locs [vW g adV V25, gW L kd nu aa] := hW
                    obtain ⟨v26, ev26, hf⟩ := o_ls hf
                    refine lv_iinc (v := v26) (lv' := [(4, .int v26), (5, .int 0), (3, .int v3), (0, .ref (adV 0)), (1, .int x1), (2, .int x2)]) hx hb dX1_night_2_108 hl (k := 1) rfl ev26 (by decide) rfl (fun ls hl => ?_)
                    refine lv_goto (tgt := 14) hx hb dX1_night_2_111 (by decide) ?_
                    exact ih6 _ _ _ _ _ hW (lv_sub hl [0, 2, 3, 4, 5] rfl) hf
                · have hf := o_t hf c19
                  refine lv_iconst (v := 1) hx hb dX1_night_2_66 (by decide) ?_
                  refine lv_goto (tgt := 71) hx hb dX1_night_2_67 (by decide) ?_
                  refine lv_icmp_ne (tgt := 108) hx hb dX1_night_2_71 (by decide) (fun c27 => ?_) (fun c27 => ?_)
                  · have hf := o_f hf c27
                    obtain ⟨v28, ev28, hf⟩ := o_ls hf
                    refine lv_iinc (v := v28) (lv' := [(4, .int v28), (5, .int 0), (3, .int v3), (0, .ref (adV 0)), (1, .int x1), (2, .int x2)]) hx hb dX1_night_2_108 hl (k := 1) rfl ev28 (by decide) rfl (fun ls hl => ?_)
                    refine lv_goto (tgt := 14) hx hb dX1_night_2_111 (by decide) ?_
                    exact ih6 _ _ _ _ _ hW (lv_sub hl [0, 2, 3, 4, 5] rfl) hf
                  · have hf := o_t hf c27
                    refine lv_aload_n hx hb dX1_night_2_74 rfl (lv_at hl 3 rfl) ?_
                    refine lv_iload_n hx hb dX1_night_2_75 rfl (lv_at hl 4 rfl) ?_
                    obtain ⟨V29, hc29, hf⟩ := o_b1s hf
                    have hp29 : List.Perm [vW g adV V8, gW L kd nu aa] ([vW g adV V8] ++ [gW L kd nu aa]) := b_perm [0] [1] 2 rfl rfl rfl rfl
                    refine b_call0 ⟨rfl, rfl⟩ (va_runV (As := [.int x1]) (rest := []) ⟨hx, hb, hml, hown, hts⟩ (m_X1_writes l D g H.size adV fu V8 x1 V29 hc29) (cwV 1 hts (lw_V q1258 q686 q687 q77 q688) rfl rfl rfl (by decide +kernel) ⟨Nat.le_of_ble_eq_true rfl, Nat.le_of_ble_eq_true rfl⟩) (b_preV (pp := 0) (q := 0) hW hp29 rfl vW_0 rfl) rfl rfl hl.1 rfl (lv_room (Nat.le_of_ble_eq_true rfl)) dX1_night_2_76 ⟨Nat.le_of_ble_eq_true rfl, Nat.le_of_ble_eq_true rfl⟩) hW hp29 (fun _ _ H locs hW => ?_)
                    have hW : bW D g A s H locs [vW g adV V29, gW L kd nu aa] := hW
                    refine lv_aload_n hx hb dX1_night_2_79 rfl (lv_at hl 3 rfl) ?_
                    refine lv_iload hx hb dX1_night_2_80 (lv_at hl 1 rfl) ?_
                    refine lv_aload_n hx hb dX1_night_2_82 rfl (lv_at hl 3 rfl) ?_
                    refine b_get hx hb hts in_X1 hown hW 0 0 1 8 rfl vW_0 rfl (by decide) ⟨rfl, rfl, rfl⟩ (hts _ q155) vW_g8 dX1_night_2_83 ?_
                    refine lv_iload hx hb dX1_night_2_86 (lv_at hl 1 rfl) ?_
                    refine b_iald hx hb hW 0 9 rfl vW_9 h11 dX1_night_2_88 ?_
                    refine lv_iload hx hb dX1_night_2_89 (lv_at hl 0 rfl) ?_
                    refine lv_isub hx hb dX1_night_2_91 ?_
                    obtain ⟨V30, hc30, hf⟩ := o_b1s hf
                    have hp30 : List.Perm [vW g adV V29, gW L kd nu aa] ([vW g adV V29, gW L kd nu aa] ++ []) := b_perm [0, 1] [] 2 rfl rfl rfl rfl
                    refine b_call0 ⟨rfl, rfl⟩ (va_runV (As := [.int v7, .int ((V29.1 9 (ix v7)) - 0)]) (rest := []) ⟨hx, hb, hml, hown, hts⟩ (m_X1_comes l D g H.size adV fu V29 L kd nu aa v7 ((V29.1 9 (ix v7)) - 0) V30 hc30) (cwV 2 hts (lw_V q1158 q1160 qs20 q77 q1161) rfl rfl rfl (by decide +kernel) ⟨Nat.le_of_ble_eq_true rfl, Nat.le_of_ble_eq_true rfl⟩) (b_preV (pp := 0) (q := 0) hW hp30 rfl vW_0 rfl) rfl rfl hl.1 rfl (lv_room (Nat.le_of_ble_eq_true rfl)) dX1_night_2_92 ⟨Nat.le_of_ble_eq_true rfl, Nat.le_of_ble_eq_true rfl⟩) hW hp30 (fun _ _ H locs hW => ?_)
                    have hW : bW D g A s H locs [vW g adV V30, gW L kd nu aa] := hW
                    refine lv_aload_n hx hb dX1_night_2_95 rfl (lv_at hl 3 rfl) ?_
                    refine lv_iload_n hx hb dX1_night_2_96 rfl (lv_at hl 5 rfl) ?_
                    obtain ⟨V31, hc31, hf⟩ := o_b1s hf
                    have hp31 : List.Perm [vW g adV V30, gW L kd nu aa] ([vW g adV V30] ++ [gW L kd nu aa]) := b_perm [0] [1] 2 rfl rfl rfl rfl
                    refine b_call0 ⟨rfl, rfl⟩ (va_runV (As := [.int x2]) (rest := []) ⟨hx, hb, hml, hown, hts⟩ (m_X1_writes l D g H.size adV fu V30 x2 V31 hc31) (cwV 1 hts (lw_V q1258 q686 q687 q77 q688) rfl rfl rfl (by decide +kernel) ⟨Nat.le_of_ble_eq_true rfl, Nat.le_of_ble_eq_true rfl⟩) (b_preV (pp := 0) (q := 0) hW hp31 rfl vW_0 rfl) rfl rfl hl.1 rfl (lv_room (Nat.le_of_ble_eq_true rfl)) dX1_night_2_97 ⟨Nat.le_of_ble_eq_true rfl, Nat.le_of_ble_eq_true rfl⟩) hW hp31 (fun _ _ H locs hW => ?_)
                    have hW : bW D g A s H locs [vW g adV V31, gW L kd nu aa] := hW
                    refine lv_aload_n hx hb dX1_night_2_100 rfl (lv_at hl 3 rfl) ?_
                    refine lv_iload hx hb dX1_night_2_101 (lv_at hl 1 rfl) ?_
                    refine lv_iload hx hb dX1_night_2_103 (lv_at hl 0 rfl) ?_
                    obtain ⟨V32, hc32, hf⟩ := o_b1s hf
                    have hp32 : List.Perm [vW g adV V31, gW L kd nu aa] ([vW g adV V31, gW L kd nu aa] ++ []) := b_perm [0, 1] [] 2 rfl rfl rfl rfl
                    refine b_call0 ⟨rfl, rfl⟩ (va_runV (As := [.int v7, .int 0]) (rest := []) ⟨hx, hb, hml, hown, hts⟩ (m_X1_comes l D g H.size adV fu V31 L kd nu aa v7 0 V32 hc32) (cwV 2 hts (lw_V q1158 q1160 qs20 q77 q1161) rfl rfl rfl (by decide +kernel) ⟨Nat.le_of_ble_eq_true rfl, Nat.le_of_ble_eq_true rfl⟩) (b_preV (pp := 0) (q := 0) hW hp32 rfl vW_0 rfl) rfl rfl hl.1 rfl (lv_room (Nat.le_of_ble_eq_true rfl)) dX1_night_2_105 ⟨Nat.le_of_ble_eq_true rfl, Nat.le_of_ble_eq_true rfl⟩) hW hp32 (fun _ _ H locs hW => ?_)
                    have hW : bW D g A s H locs [vW g adV V32, gW L kd nu aa] := hW
                    obtain ⟨v33, ev33, hf⟩ := o_ls hf
                    refine lv_iinc (v := v33) (lv' := [(4, .int v33), (5, .int 0), (3, .int v3), (0, .ref (adV 0)), (1, .int x1), (2, .int x2)]) hx hb dX1_night_2_108 hl (k := 1) rfl ev33 (by decide) rfl (fun ls hl => ?_)
                    refine lv_goto (tgt := 14) hx hb dX1_night_2_111 (by decide) ?_
                    exact ih6 _ _ _ _ _ hW (lv_sub hl [0, 2, 3, 4, 5] rfl) hf
              · have hf := o_f hf c15
                refine lv_aload_n hx hb dX1_night_2_36 rfl (lv_at hl 2 rfl) ?_
                refine b_get hx hb hts in_X1 hown hW 0 0 1 8 rfl vW_0 rfl (by decide) ⟨rfl, rfl, rfl⟩ (hts _ q155) vW_g8 dX1_night_2_37 ?_
                refine lv_iload hx hb dX1_night_2_40 (lv_at hl 0 rfl) ?_
                refine b_iald hx hb hW 0 9 rfl vW_9 h11 dX1_night_2_42 ?_
                refine lv_iconst (v := 2) hx hb dX1_night_2_43 (by decide) ?_
                refine lv_idiv hx hb dX1_night_2_44 (by decide) ?_
                refine lv_goto (tgt := 49) hx hb dX1_night_2_45 (by decide) ?_
                obtain ⟨v34, ev34, hf⟩ := o_ls hf
                refine b_topi ev34 ?_
                refine lv_istore (lv' := [(5, .int v34), (4, .int v7), (3, .int v3), (0, .ref (adV 0)), (1, .int x1), (2, .int x2)]) hx hb dX1_night_2_49 hl (by decide) rfl (fun ls hl => ?_)
                refine lv_aload_n hx hb dX1_night_2_51 rfl (lv_at hl 3 rfl) ?_
                refine b_get hx hb hts in_X1 hown hW 0 0 1 7 rfl vW_0 rfl (by decide) ⟨rfl, rfl, rfl⟩ (hts _ q153) vW_g7 dX1_night_2_52 ?_
                refine lv_iload hx hb dX1_night_2_55 (lv_at hl 1 rfl) ?_
                refine b_aald hx hb hW 0 8 5 rfl vW_8 rfl h11 dX1_night_2_57 ?_
                refine b_split (fun hrf => by cases (o_opn hf hrf)) (fun a35 hrf => ?_)
                have hf := o_ops hf hrf
                obtain ⟨h36, hf⟩ := o_cs hf
                obtain ⟨r37, hc37, hf⟩ := o_b1s hf
                have hp37 : List.Perm [vW g adV V8, gW L kd nu aa] ([] ++ [vW g adV V8, gW L kd nu aa]) := b_perm [] [0, 1] 2 rfl rfl rfl rfl
                refine b_gv_late ⟨hx, hb, hml, hown, hts⟩ q1146 hW hp37 1 rfl h36 hc37 ⟨Nat.le_of_ble_eq_true rfl, Nat.le_of_ble_eq_true rfl⟩ hl.1 (Nat.le_of_ble_eq_true rfl) ⟨Nat.le_of_ble_eq_true rfl, Nat.le_of_ble_eq_true rfl⟩ dX1_night_2_58 (fun H locs hW => ?_)
                have hW : bW D g A s H locs [vW g adV V8, gW L kd nu aa] := hW
                refine lv_iload_n hx hb dX1_night_2_61 rfl (lv_at hl 2 rfl) ?_
                refine lv_iconst (v := 1) hx hb dX1_night_2_62 (by decide) ?_
                refine lv_icmp_ne (tgt := 70) hx hb dX1_night_2_63 (by decide) (fun c38 => ?_) (fun c38 => ?_)
                · have hf := o_f hf c38
                  refine lv_iconst (v := 0) hx hb dX1_night_2_70 (by decide) ?_
                  refine lv_icmp_ne (tgt := 108) hx hb dX1_night_2_71 (by decide) (fun c39 => ?_) (fun c39 => ?_)
                  · have hf := o_f hf c39
                    obtain ⟨v40, ev40, hf⟩ := o_ls hf
                    refine lv_iinc (v := v40) (lv' := [(4, .int v40), (5, .int v34), (3, .int v3), (0, .ref (adV 0)), (1, .int x1), (2, .int x2)]) hx hb dX1_night_2_108 hl (k := 1) rfl ev40 (by decide) rfl (fun ls hl => ?_)
                    refine lv_goto (tgt := 14) hx hb dX1_night_2_111 (by decide) ?_
                    exact ih6 _ _ _ _ _ hW (lv_sub hl [0, 2, 3, 4, 5] rfl) hf
                  · have hf := o_t hf c39
                    refine lv_aload_n hx hb dX1_night_2_74 rfl (lv_at hl 3 rfl) ?_
                    refine lv_iload_n hx hb dX1_night_2_75 rfl (lv_at hl 4 rfl) ?_
                    obtain ⟨V41, hc41, hf⟩ := o_b1s hf
                    have hp41 : List.Perm [vW g adV V8, gW L kd nu aa] ([vW g adV V8] ++ [gW L kd nu aa]) := b_perm [0] [1] 2 rfl rfl rfl rfl
                    refine b_call0 ⟨rfl, rfl⟩ (va_runV (As := [.int x1]) (rest := []) ⟨hx, hb, hml, hown, hts⟩ (m_X1_writes l D g H.size adV fu V8 x1 V41 hc41) (cwV 1 hts (lw_V q1258 q686 q687 q77 q688) rfl rfl rfl (by decide +kernel) ⟨Nat.le_of_ble_eq_true rfl, Nat.le_of_ble_eq_true rfl⟩) (b_preV (pp := 0) (q := 0) hW hp41 rfl vW_0 rfl) rfl rfl hl.1 rfl (lv_room (Nat.le_of_ble_eq_true rfl)) dX1_night_2_76 ⟨Nat.le_of_ble_eq_true rfl, Nat.le_of_ble_eq_true rfl⟩) hW hp41 (fun _ _ H locs hW => ?_)
                    have hW : bW D g A s H locs [vW g adV V41, gW L kd nu aa] := hW
                    refine lv_aload_n hx hb dX1_night_2_79 rfl (lv_at hl 3 rfl) ?_
                    refine lv_iload hx hb dX1_night_2_80 (lv_at hl 1 rfl) ?_
                    refine lv_aload_n hx hb dX1_night_2_82 rfl (lv_at hl 3 rfl) ?_
                    refine b_get hx hb hts in_X1 hown hW 0 0 1 8 rfl vW_0 rfl (by decide) ⟨rfl, rfl, rfl⟩ (hts _ q155) vW_g8 dX1_night_2_83 ?_
                    refine lv_iload hx hb dX1_night_2_86 (lv_at hl 1 rfl) ?_
                    refine b_iald hx hb hW 0 9 rfl vW_9 h11 dX1_night_2_88 ?_
                    refine lv_iload hx hb dX1_night_2_89 (lv_at hl 0 rfl) ?_
                    refine lv_isub hx hb dX1_night_2_91 ?_
                    obtain ⟨V42, hc42, hf⟩ := o_b1s hf
                    have hp42 : List.Perm [vW g adV V41, gW L kd nu aa] ([vW g adV V41, gW L kd nu aa] ++ []) := b_perm [0, 1] [] 2 rfl rfl rfl rfl
                    refine b_call0 ⟨rfl, rfl⟩ (va_runV (As := [.int v7, .int ((V41.1 9 (ix v7)) - v34)]) (rest := []) ⟨hx, hb, hml, hown, hts⟩ (m_X1_comes l D g H.size adV fu V41 L kd nu aa v7 ((V41.1 9 (ix v7)) - v34) V42 hc42) (cwV 2 hts (lw_V q1158 q1160 qs20 q77 q1161) rfl rfl rfl (by decide +kernel) ⟨Nat.le_of_ble_eq_true rfl, Nat.le_of_ble_eq_true rfl⟩) (b_preV (pp := 0) (q := 0) hW hp42 rfl vW_0 rfl) rfl rfl hl.1 rfl (lv_room (Nat.le_of_ble_eq_true rfl)) dX1_night_2_92 ⟨Nat.le_of_ble_eq_true rfl, Nat.le_of_ble_eq_true rfl⟩) hW hp42 (fun _ _ H locs hW => ?_)
                    have hW : bW D g A s H locs [vW g adV V42, gW L kd nu aa] := hW
                    refine lv_aload_n hx hb dX1_night_2_95 rfl (lv_at hl 3 rfl) ?_
                    refine lv_iload_n hx hb dX1_night_2_96 rfl (lv_at hl 5 rfl) ?_
                    obtain ⟨V43, hc43, hf⟩ := o_b1s hf
                    have hp43 : List.Perm [vW g adV V42, gW L kd nu aa] ([vW g adV V42] ++ [gW L kd nu aa]) := b_perm [0] [1] 2 rfl rfl rfl rfl
                    refine b_call0 ⟨rfl, rfl⟩ (va_runV (As := [.int x2]) (rest := []) ⟨hx, hb, hml, hown, hts⟩ (m_X1_writes l D g H.size adV fu V42 x2 V43 hc43) (cwV 1 hts (lw_V q1258 q686 q687 q77 q688) rfl rfl rfl (by decide +kernel) ⟨Nat.le_of_ble_eq_true rfl, Nat.le_of_ble_eq_true rfl⟩) (b_preV (pp := 0) (q := 0) hW hp43 rfl vW_0 rfl) rfl rfl hl.1 rfl (lv_room (Nat.le_of_ble_eq_true rfl)) dX1_night_2_97 ⟨Nat.le_of_ble_eq_true rfl, Nat.le_of_ble_eq_true rfl⟩) hW hp43 (fun _ _ H locs hW => ?_)
                    have hW : bW D g A s H locs [vW g adV V43, gW L kd nu aa] := hW
                    refine lv_aload_n hx hb dX1_night_2_100 rfl (lv_at hl 3 rfl) ?_
                    refine lv_iload hx hb dX1_night_2_101 (lv_at hl 1 rfl) ?_
                    refine lv_iload hx hb dX1_night_2_103 (lv_at hl 0 rfl) ?_
                    obtain ⟨V44, hc44, hf⟩ := o_b1s hf
                    have hp44 : List.Perm [vW g adV V43, gW L kd nu aa] ([vW g adV V43, gW L kd nu aa] ++ []) := b_perm [0, 1] [] 2 rfl rfl rfl rfl
                    refine b_call0 ⟨rfl, rfl⟩ (va_runV (As := [.int v7, .int v34]) (rest := []) ⟨hx, hb, hml, hown, hts⟩ (m_X1_comes l D g H.size adV fu V43 L kd nu aa v7 v34 V44 hc44) (cwV 2 hts (lw_V q1158 q1160 qs20 q77 q1161) rfl rfl rfl (by decide +kernel) ⟨Nat.le_of_ble_eq_true rfl, Nat.le_of_ble_eq_true rfl⟩) (b_preV (pp := 0) (q := 0) hW hp44 rfl vW_0 rfl) rfl rfl hl.1 rfl (lv_room (Nat.le_of_ble_eq_true rfl)) dX1_night_2_105 ⟨Nat.le_of_ble_eq_true rfl, Nat.le_of_ble_eq_true rfl⟩) hW hp44 (fun _ _ H locs hW => ?_)
                    have hW : bW D g A s H locs [vW g adV V44, gW L kd nu aa] := hW
                    obtain ⟨v45, ev45, hf⟩ := o_ls hf
                    refine lv_iinc (v := v45) (lv' := [(4, .int v45), (5, .int v34), (3, .int v3), (0, .ref (adV 0)), (1, .int x1), (2, .int x2)]) hx hb dX1_night_2_108 hl (k := 1) rfl ev45 (by decide) rfl (fun ls hl => ?_)
                    refine lv_goto (tgt := 14) hx hb dX1_night_2_111 (by decide) ?_
                    exact ih6 _ _ _ _ _ hW (lv_sub hl [0, 2, 3, 4, 5] rfl) hf
                · have hf := o_t hf c38
                  refine lv_iconst (v := 1) hx hb dX1_night_2_66 (by decide) ?_
                  refine lv_goto (tgt := 71) hx hb dX1_night_2_67 (by decide) ?_
                  refine lv_icmp_ne (tgt := 108) hx hb dX1_night_2_71 (by decide) (fun c46 => ?_) (fun c46 => ?_)
                  · have hf := o_f hf c46
                    obtain ⟨v47, ev47, hf⟩ := o_ls hf
                    refine lv_iinc (v := v47) (lv' := [(4, .int v47), (5, .int v34), (3, .int v3), (0, .ref (adV 0)), (1, .int x1), (2, .int x2)]) hx hb dX1_night_2_108 hl (k := 1) rfl ev47 (by decide) rfl (fun ls hl => ?_)
                    refine lv_goto (tgt := 14) hx hb dX1_night_2_111 (by decide) ?_
                    exact ih6 _ _ _ _ _ hW (lv_sub hl [0, 2, 3, 4, 5] rfl) hf
                  · have hf := o_t hf c46
                    refine lv_aload_n hx hb dX1_night_2_74 rfl (lv_at hl 3 rfl) ?_
                    refine lv_iload_n hx hb dX1_night_2_75 rfl (lv_at hl 4 rfl) ?_
                    obtain ⟨V48, hc48, hf⟩ := o_b1s hf
                    have hp48 : List.Perm [vW g adV V8, gW L kd nu aa] ([vW g adV V8] ++ [gW L kd nu aa]) := b_perm [0] [1] 2 rfl rfl rfl rfl
                    refine b_call0 ⟨rfl, rfl⟩ (va_runV (As := [.int x1]) (rest := []) ⟨hx, hb, hml, hown, hts⟩ (m_X1_writes l D g H.size adV fu V8 x1 V48 hc48) (cwV 1 hts (lw_V q1258 q686 q687 q77 q688) rfl rfl rfl (by decide +kernel) ⟨Nat.le_of_ble_eq_true rfl, Nat.le_of_ble_eq_true rfl⟩) (b_preV (pp := 0) (q := 0) hW hp48 rfl vW_0 rfl) rfl rfl hl.1 rfl (lv_room (Nat.le_of_ble_eq_true rfl)) dX1_night_2_76 ⟨Nat.le_of_ble_eq_true rfl, Nat.le_of_ble_eq_true rfl⟩) hW hp48 (fun _ _ H locs hW => ?_)
                    have hW : bW D g A s H locs [vW g adV V48, gW L kd nu aa] := hW
                    refine lv_aload_n hx hb dX1_night_2_79 rfl (lv_at hl 3 rfl) ?_
                    refine lv_iload hx hb dX1_night_2_80 (lv_at hl 1 rfl) ?_
                    refine lv_aload_n hx hb dX1_night_2_82 rfl (lv_at hl 3 rfl) ?_
                    refine b_get hx hb hts in_X1 hown hW 0 0 1 8 rfl vW_0 rfl (by decide) ⟨rfl, rfl, rfl⟩ (hts _ q155) vW_g8 dX1_night_2_83 ?_
                    refine lv_iload hx hb dX1_night_2_86 (lv_at hl 1 rfl) ?_
                    refine b_iald hx hb hW 0 9 rfl vW_9 h11 dX1_night_2_88 ?_
                    refine lv_iload hx hb dX1_night_2_89 (lv_at hl 0 rfl) ?_
                    refine lv_isub hx hb dX1_night_2_91 ?_
                    obtain ⟨V49, hc49, hf⟩ := o_b1s hf
                    have hp49 : List.Perm [vW g adV V48, gW L kd nu aa] ([vW g adV V48, gW L kd nu aa] ++ []) := b_perm [0, 1] [] 2 rfl rfl rfl rfl
                    refine b_call0 ⟨rfl, rfl⟩ (va_runV (As := [.int v7, .int ((V48.1 9 (ix v7)) - v34)]) (rest := []) ⟨hx, hb, hml, hown, hts⟩ (m_X1_comes l D g H.size adV fu V48 L kd nu aa v7 ((V48.1 9 (ix v7)) - v34) V49 hc49) (cwV 2 hts (lw_V q1158 q1160 qs20 q77 q1161) rfl rfl rfl (by decide +kernel) ⟨Nat.le_of_ble_eq_true rfl, Nat.le_of_ble_eq_true rfl⟩) (b_preV (pp := 0) (q := 0) hW hp49 rfl vW_0 rfl) rfl rfl hl.1 rfl (lv_room (Nat.le_of_ble_eq_true rfl)) dX1_night_2_92 ⟨Nat.le_of_ble_eq_true rfl, Nat.le_of_ble_eq_true rfl⟩) hW hp49 (fun _ _ H locs hW => ?_)
                    have hW : bW D g A s H locs [vW g adV V49, gW L kd nu aa] := hW
                    refine lv_aload_n hx hb dX1_night_2_95 rfl (lv_at hl 3 rfl) ?_
                    refine lv_iload_n hx hb dX1_night_2_96 rfl (lv_at hl 5 rfl) ?_
                    obtain ⟨V50, hc50, hf⟩ := o_b1s hf
                    have hp50 : List.Perm [vW g adV V49, gW L kd nu aa] ([vW g adV V49] ++ [gW L kd nu aa]) := b_perm [0] [1] 2 rfl rfl rfl rfl
                    refine b_call0 ⟨rfl, rfl⟩ (va_runV (As := [.int x2]) (rest := []) ⟨hx, hb, hml, hown, hts⟩ (m_X1_writes l D g H.size adV fu V49 x2 V50 hc50) (cwV 1 hts (lw_V q1258 q686 q687 q77 q688) rfl rfl rfl (by decide +kernel) ⟨Nat.le_of_ble_eq_true rfl, Nat.le_of_ble_eq_true rfl⟩) (b_preV (pp := 0) (q := 0) hW hp50 rfl vW_0 rfl) rfl rfl hl.1 rfl (lv_room (Nat.le_of_ble_eq_true rfl)) dX1_night_2_97 ⟨Nat.le_of_ble_eq_true rfl, Nat.le_of_ble_eq_true rfl⟩) hW hp50 (fun _ _ H locs hW => ?_)
                    have hW : bW D g A s H locs [vW g adV V50, gW L kd nu aa] := hW
                    refine lv_aload_n hx hb dX1_night_2_100 rfl (lv_at hl 3 rfl) ?_
                    refine lv_iload hx hb dX1_night_2_101 (lv_at hl 1 rfl) ?_
                    refine lv_iload hx hb dX1_night_2_103 (lv_at hl 0 rfl) ?_
                    obtain ⟨V51, hc51, hf⟩ := o_b1s hf
                    have hp51 : List.Perm [vW g adV V50, gW L kd nu aa] ([vW g adV V50, gW L kd nu aa] ++ []) := b_perm [0, 1] [] 2 rfl rfl rfl rfl
                    refine b_call0 ⟨rfl, rfl⟩ (va_runV (As := [.int v7, .int v34]) (rest := []) ⟨hx, hb, hml, hown, hts⟩ (m_X1_comes l D g H.size adV fu V50 L kd nu aa v7 v34 V51 hc51) (cwV 2 hts (lw_V q1158 q1160 qs20 q77 q1161) rfl rfl rfl (by decide +kernel) ⟨Nat.le_of_ble_eq_true rfl, Nat.le_of_ble_eq_true rfl⟩) (b_preV (pp := 0) (q := 0) hW hp51 rfl vW_0 rfl) rfl rfl hl.1 rfl (lv_room (Nat.le_of_ble_eq_true rfl)) dX1_night_2_105 ⟨Nat.le_of_ble_eq_true rfl, Nat.le_of_ble_eq_true rfl⟩) hW hp51 (fun _ _ H locs hW => ?_)
                    have hW : bW D g A s H locs [vW g adV V51, gW L kd nu aa] := hW
                    obtain ⟨v52, ev52, hf⟩ := o_ls hf
                    refine lv_iinc (v := v52) (lv' := [(4, .int v52), (5, .int v34), (3, .int v3), (0, .ref (adV 0)), (1, .int x1), (2, .int x2)]) hx hb dX1_night_2_108 hl (k := 1) rfl ev52 (by decide) rfl (fun ls hl => ?_)
                    refine lv_goto (tgt := 14) hx hb dX1_night_2_111 (by decide) ?_
                    exact ih6 _ _ _ _ _ hW (lv_sub hl [0, 2, 3, 4, 5] rfl) hf
        exact L6 _ _ _ _ _ _ hW (lv_sub hl [0, 1, 2, 3, 4] rfl) hf
  exact L2 _ _ _ _ _ _ hW (lv_sub hl [0, 1, 2, 3] rfl) hf
def f_X1_joyOfOwn_L4 (V : BC) (L : List Nat) (kd : Nat → Nat) (fu : Nat) (rec1 : (Int32 × Int32) → Option Int32) : Int32 × Int32 → Option Int32
  | (v2, v3) =>
    (if (V.1 0 1) ≤ v3 then
     some v2
     else
     o_ck (inB v3 6) (o_op (V.2.1 8 (ix v3)) none fun (a6 : Nat) => o_ck (gIn L kd a6) (o_lt ((if gOw (kd a6) = true then 1 else 0)) fun (v8 : Int32) =>
     (if v8 = 0 then
     o_lt (v2 + 0) fun (v10 : Int32) =>
     o_lt (v3 + 1) fun (v11 : Int32) =>
     rec1 (v10, v11)
     else
     o_b1 (f_X1_joyOf fu V v3) fun (r12 : Int32) =>
     o_lt (v2 + r12) fun (v13 : Int32) =>
     o_lt (v3 + 1) fun (v14 : Int32) =>
     rec1 (v13, v14)))))
def f_X1_joyOfOwn (fu : Nat) (V : BC) (L : List Nat) (kd : Nat → Nat) (nu : Nat → Int32) (aa : Nat → Int32) : Option Int32 :=
 o_lp (f_X1_joyOfOwn_L4 V L kd fu) fu (0, 0)
abbrev rm_X1_joyOfOwn : Room := { frames := 2, cells := 0, slots := 0, locals := 44 }
set_option maxHeartbeats 4000000 in
set_option maxRecDepth 100000 in
theorem m_X1_joyOfOwn (l : Launch) (D : va_G) (g : Nat → ClassId) (sz : Nat) (adV : Nat → Nat) (fu : Nat) (V : BC) (L : List Nat) (kd : Nat → Nat) (nu : Nat → Int32) (aa : Nat → Int32) (rO : Int32) (hf : f_X1_joyOfOwn fu V L kd nu aa = some rO) : bMet (S := Unit) l yX1_joyOfOwn (ws_ yX1_joyOfOwn cX1_joyOfOwn 3 (some .int)) rm_X1_joyOfOwn D g sz [.ref (adV 0)] [vW g adV V, gW L kd nu aa] (fun _ => True) (fun _ => some (.int rO)) (fun _ => [vW g adV V, gW L kd nu aa]) := by
  refine b_met (by decide) (Nat.le_of_ble_eq_true rfl) ?_
  intro p e s m args below meth c A Q ls hx hb hml hr hlk hown hname hts hE hl hW
  revert hW; generalize s.heap = H; intro hW
  have hl : lv_has ls 3 [(0, .ref (adV 0))] := hl
  rw [f_X1_joyOfOwn] at hf
  refine lv_iconst (v := 0) hx hb dX1_joyOfOwn_0 (by decide) ?_
  refine lv_istore_n (lv' := [(1, .int 0), (0, .ref (adV 0))]) hx hb dX1_joyOfOwn_1 rfl hl (by decide) rfl (fun ls hl => ?_)
  refine lv_iconst (v := 0) hx hb dX1_joyOfOwn_2 (by decide) ?_
  refine lv_istore_n (lv' := [(2, .int 0), (1, .int 0), (0, .ref (adV 0))]) hx hb dX1_joyOfOwn_3 rfl hl (by decide) rfl (fun ls hl => ?_)
  obtain ⟨stp1, est1, hf⟩ := o_ln hf
  have L1 : ∀ (n : Nat) (v2 : Int32) (v3 : Int32) (H : Heap) (locs : List Loc) (ls : Array Slot), bW D g A s H locs [vW g adV V, gW L kd nu aa] → lv_has ls 3 [(2, .int v3), (1, .int v2), (0, .ref (adV 0))] → o_lp stp1 n (v2, v3) = some rO → W p l e rm_X1_joyOfOwn s m args below meth c H locs 0 0 Q (F0 m 4 ls []) := by
    intro n1
    induction n1 with
    | zero => intro v2 v3 H locs ls hW hl hf; exact (o_lz hf).elim
    | succ n1 ih1 =>
      intro v2 v3 H locs ls hW hl hf
      have hf := o_lu est1 hf
      rw [f_X1_joyOfOwn_L4] at hf
      refine lv_iload_n hx hb dX1_joyOfOwn_4 rfl (lv_at hl 0 rfl) ?_
      refine lv_aload_n hx hb dX1_joyOfOwn_5 rfl (lv_at hl 2 rfl) ?_
      refine b_get hx hb hts in_X1 hown hW 0 0 1 13 rfl vW_0 rfl (by decide) ⟨rfl, rfl, rfl⟩ (hts _ q168) vW_g13 dX1_joyOfOwn_6 ?_
      refine lv_icmp_ge (tgt := 42) hx hb dX1_joyOfOwn_9 (by decide) (fun c4 => ?_) (fun c4 => ?_)
      · have hf := o_t hf c4
        refine lv_iload_n hx hb dX1_joyOfOwn_42 rfl (lv_at hl 1 rfl) ?_
        cases hf
        exact b_iret hx hb hr hlk hE hW () rfl trivial rfl dX1_joyOfOwn_43
      · have hf := o_f hf c4
        refine lv_iload_n hx hb dX1_joyOfOwn_12 rfl (lv_at hl 1 rfl) ?_
        refine lv_aload_n hx hb dX1_joyOfOwn_13 rfl (lv_at hl 2 rfl) ?_
        refine b_get hx hb hts in_X1 hown hW 0 0 1 7 rfl vW_0 rfl (by decide) ⟨rfl, rfl, rfl⟩ (hts _ q153) vW_g7 dX1_joyOfOwn_14 ?_
        refine lv_iload_n hx hb dX1_joyOfOwn_17 rfl (lv_at hl 0 rfl) ?_
        obtain ⟨h5, hf⟩ := o_cs hf
        refine b_aald hx hb hW 0 8 5 rfl vW_8 rfl h5 dX1_joyOfOwn_18 ?_
        refine b_split (fun hrf => by cases (o_opn hf hrf)) (fun a6 hrf => ?_)
        have hf := o_ops hf hrf
        obtain ⟨h7, hf⟩ := o_cs hf
        refine b_instG hx hb hown (hts _ q1372) hW 1 rfl h7 gOw g_tbO dX1_joyOfOwn_19 ?_
        obtain ⟨v8, ev8, hf⟩ := o_ls hf
        refine b_topi ev8 ?_
        refine lv_if_eq (tgt := 33) hx hb dX1_joyOfOwn_22 (by decide) (fun c9 => ?_) (fun c9 => ?_)
        · have hf := o_t hf c9
          refine lv_iconst (v := 0) hx hb dX1_joyOfOwn_33 (by decide) ?_
          refine lv_iadd hx hb dX1_joyOfOwn_34 ?_
          obtain ⟨v10, ev10, hf⟩ := o_ls hf
          refine b_topi ev10 ?_
          refine lv_istore_n (lv' := [(1, .int v10), (2, .int v3), (0, .ref (adV 0))]) hx hb dX1_joyOfOwn_35 rfl hl (by decide) rfl (fun ls hl => ?_)
          obtain ⟨v11, ev11, hf⟩ := o_ls hf
          refine lv_iinc (v := v11) (lv' := [(2, .int v11), (1, .int v10), (0, .ref (adV 0))]) hx hb dX1_joyOfOwn_36 hl (k := 1) rfl ev11 (by decide) rfl (fun ls hl => ?_)
          refine lv_goto (tgt := 4) hx hb dX1_joyOfOwn_39 (by decide) ?_
          exact ih1 _ _ _ _ _ hW (lv_sub hl [0, 1, 2] rfl) hf
        · have hf := o_f hf c9
          refine lv_aload_n hx hb dX1_joyOfOwn_25 rfl (lv_at hl 2 rfl) ?_
          refine lv_iload_n hx hb dX1_joyOfOwn_26 rfl (lv_at hl 0 rfl) ?_
          obtain ⟨r12, hc12, hf⟩ := o_b1s hf
          have hp12 : List.Perm [vW g adV V, gW L kd nu aa] ([vW g adV V] ++ [gW L kd nu aa]) := b_perm [0] [1] 2 rfl rfl rfl rfl
          refine b_call0 ⟨rfl, rfl⟩ (va_runV (As := [.int v3]) (rest := [.int v2]) ⟨hx, hb, hml, hown, hts⟩ (m_X1_joyOf l D g H.size adV fu V v3 r12 hc12) (cwV 1 hts (lw_V q1192 q1193 q1194 q77 q1195) rfl rfl rfl (by decide +kernel) ⟨Nat.le_of_ble_eq_true rfl, Nat.le_of_ble_eq_true rfl⟩) (b_preV (pp := 0) (q := 0) hW hp12 rfl vW_0 rfl) rfl rfl hl.1 rfl (lv_room (Nat.le_of_ble_eq_true rfl)) dX1_joyOfOwn_27 ⟨Nat.le_of_ble_eq_true rfl, Nat.le_of_ble_eq_true rfl⟩) hW hp12 (fun _ _ H locs hW => ?_)
          have hW : bW D g A s H locs [vW g adV V, gW L kd nu aa] := hW
          refine lv_goto (tgt := 34) hx hb dX1_joyOfOwn_30 (by decide) ?_
          refine lv_iadd hx hb dX1_joyOfOwn_34 ?_
          obtain ⟨v13, ev13, hf⟩ := o_ls hf
          refine b_topi ev13 ?_
          refine lv_istore_n (lv' := [(1, .int v13), (2, .int v3), (0, .ref (adV 0))]) hx hb dX1_joyOfOwn_35 rfl hl (by decide) rfl (fun ls hl => ?_)
          obtain ⟨v14, ev14, hf⟩ := o_ls hf
          refine lv_iinc (v := v14) (lv' := [(2, .int v14), (1, .int v13), (0, .ref (adV 0))]) hx hb dX1_joyOfOwn_36 hl (k := 1) rfl ev14 (by decide) rfl (fun ls hl => ?_)
          refine lv_goto (tgt := 4) hx hb dX1_joyOfOwn_39 (by decide) ?_
          exact ih1 _ _ _ _ _ hW (lv_sub hl [0, 1, 2] rfl) hf
  exact L1 _ _ _ _ _ _ hW (lv_sub hl [0, 1, 2] rfl) hf
def f_X1_years_L5 (L : List Nat) (kd : Nat → Nat) (nu : Nat → Int32) (aa : Nat → Int32) (x1 : Int32) (x2 : Int32) (fu : Nat) (rec1 : (Int32 × Int32 × BC) → Option (Int32 × BC)) : Int32 × Int32 × BC → Option (Int32 × BC)
  | (v2, v3, V4) =>
    (if x1 ≤ v3 then
     some (v2, V4)
     else
     o_b1 (f_X1_night fu V4 L kd nu aa) fun (V6 : BC) =>
     o_b1 (f_X1_joy fu V6 x2) fun (r7 : Int32) =>
     o_lt (v2 + r7) fun (v8 : Int32) =>
     o_b1 (f_X1_ages fu V6) fun (V9 : BC) =>
     o_lt (v3 + 1) fun (v10 : Int32) =>
     rec1 (v8, v10, V9))
def f_X1_years (fu : Nat) (V : BC) (L : List Nat) (kd : Nat → Nat) (nu : Nat → Int32) (aa : Nat → Int32) (x1 : Int32) (x2 : Int32) : Option (Int32 × BC) :=
 o_lp (f_X1_years_L5 L kd nu aa x1 x2 fu) fu (0, 0, V)
abbrev rm_X1_years : Room := { frames := 7, cells := 0, slots := 0, locals := 164 }
set_option maxHeartbeats 4000000 in
set_option maxRecDepth 100000 in
theorem m_X1_years (l : Launch) (D : va_G) (g : Nat → ClassId) (sz : Nat) (adV : Nat → Nat) (fu : Nat) (V : BC) (L : List Nat) (kd : Nat → Nat) (nu : Nat → Int32) (aa : Nat → Int32) (x1 : Int32) (x2 : Int32) (rO : Int32) (VO : BC) (hf : f_X1_years fu V L kd nu aa x1 x2 = some (rO, VO)) : bMet (S := Unit) l yX1_years (ws_ yX1_years cX1_years 5 (some .int)) rm_X1_years D g sz [.ref (adV 0), .int x1, .int x2] [vW g adV V, gW L kd nu aa] (fun _ => True) (fun _ => some (.int rO)) (fun _ => [vW g adV VO, gW L kd nu aa]) := by
  refine b_met (by decide) (Nat.le_of_ble_eq_true rfl) ?_
  intro p e s m args below meth c A Q ls hx hb hml hr hlk hown hname hts hE hl hW
  revert hW; generalize s.heap = H; intro hW
  have hl : lv_has ls 5 [(0, .ref (adV 0)), (1, .int x1), (2, .int x2)] := hl
  rw [f_X1_years] at hf
  refine lv_iconst (v := 0) hx hb dX1_years_0 (by decide) ?_
  refine lv_istore_n (lv' := [(3, .int 0), (0, .ref (adV 0)), (1, .int x1), (2, .int x2)]) hx hb dX1_years_1 rfl hl (by decide) rfl (fun ls hl => ?_)
  refine lv_iconst (v := 0) hx hb dX1_years_2 (by decide) ?_
  refine lv_istore (lv' := [(4, .int 0), (3, .int 0), (0, .ref (adV 0)), (1, .int x1), (2, .int x2)]) hx hb dX1_years_3 hl (by decide) rfl (fun ls hl => ?_)
  obtain ⟨stp1, est1, hf⟩ := o_ln hf
  have L1 : ∀ (n : Nat) (v2 : Int32) (v3 : Int32) (V4 : BC) (H : Heap) (locs : List Loc) (ls : Array Slot), bW D g A s H locs [vW g adV V4, gW L kd nu aa] → lv_has ls 5 [(4, .int v3), (3, .int v2), (0, .ref (adV 0)), (1, .int x1), (2, .int x2)] → o_lp stp1 n (v2, v3, V4) = some (rO, VO) → W p l e rm_X1_years s m args below meth c H locs 0 0 Q (F0 m 5 ls []) := by
    intro n1
    induction n1 with
    | zero => intro v2 v3 V4 H locs ls hW hl hf; exact (o_lz hf).elim
    | succ n1 ih1 =>
      intro v2 v3 V4 H locs ls hW hl hf
      have hf := o_lu est1 hf
      rw [f_X1_years_L5] at hf
      refine lv_iload hx hb dX1_years_5 (lv_at hl 0 rfl) ?_
      refine lv_iload_n hx hb dX1_years_7 rfl (lv_at hl 3 rfl) ?_
      refine lv_icmp_ge (tgt := 32) hx hb dX1_years_8 (by decide) (fun c5 => ?_) (fun c5 => ?_)
      · have hf := o_t hf c5
        refine lv_iload_n hx hb dX1_years_32 rfl (lv_at hl 1 rfl) ?_
        cases hf
        exact b_iret hx hb hr hlk hE hW () rfl trivial rfl dX1_years_33
      · have hf := o_f hf c5
        refine lv_iload_n hx hb dX1_years_11 rfl (lv_at hl 1 rfl) ?_
        refine lv_aload_n hx hb dX1_years_12 rfl (lv_at hl 2 rfl) ?_
        obtain ⟨V6, hc6, hf⟩ := o_b1s hf
        have hp6 : List.Perm [vW g adV V4, gW L kd nu aa] ([vW g adV V4, gW L kd nu aa] ++ []) := b_perm [0, 1] [] 2 rfl rfl rfl rfl
        refine b_call0 ⟨rfl, rfl⟩ (va_runV (As := []) (rest := [.int v2]) ⟨hx, hb, hml, hown, hts⟩ (m_X1_night l D g H.size adV fu V4 L kd nu aa V6 hc6) (cwV 0 hts (lw_V q1278 q1136 q1137 q77 q1138) rfl rfl rfl (by decide +kernel) ⟨Nat.le_of_ble_eq_true rfl, Nat.le_of_ble_eq_true rfl⟩) (b_preV (pp := 0) (q := 0) hW hp6 rfl vW_0 rfl) rfl rfl hl.1 rfl (lv_room (Nat.le_of_ble_eq_true rfl)) dX1_years_13 ⟨Nat.le_of_ble_eq_true rfl, Nat.le_of_ble_eq_true rfl⟩) hW hp6 (fun _ _ H locs hW => ?_)
        have hW : bW D g A s H locs [vW g adV V6, gW L kd nu aa] := hW
        refine lv_iload_n hx hb dX1_years_16 rfl (lv_at hl 4 rfl) ?_
        obtain ⟨r7, hc7, hf⟩ := o_b1s hf
        have hp7 : List.Perm [vW g adV V6, gW L kd nu aa] ([vW g adV V6] ++ [gW L kd nu aa]) := b_perm [0] [1] 2 rfl rfl rfl rfl
        refine b_call0 ⟨rfl, rfl⟩ (va_runV (As := [.int x2]) (rest := [.int v2]) ⟨hx, hb, hml, hown, hts⟩ (m_X1_joy l D g H.size adV fu V6 x2 r7 hc7) (cwV 1 hts (lw_V q1279 q1189 q1190 q77 q1191) rfl rfl rfl (by decide +kernel) ⟨Nat.le_of_ble_eq_true rfl, Nat.le_of_ble_eq_true rfl⟩) (b_preV (pp := 0) (q := 0) hW hp7 rfl vW_0 rfl) rfl rfl hl.1 rfl (lv_room (Nat.le_of_ble_eq_true rfl)) dX1_years_17 ⟨Nat.le_of_ble_eq_true rfl, Nat.le_of_ble_eq_true rfl⟩) hW hp7 (fun _ _ H locs hW => ?_)
        have hW : bW D g A s H locs [vW g adV V6, gW L kd nu aa] := hW
        refine lv_iadd hx hb dX1_years_20 ?_
        obtain ⟨v8, ev8, hf⟩ := o_ls hf
        refine b_topi ev8 ?_
        refine lv_istore_n (lv' := [(3, .int v8), (4, .int v3), (0, .ref (adV 0)), (1, .int x1), (2, .int x2)]) hx hb dX1_years_21 rfl hl (by decide) rfl (fun ls hl => ?_)
        refine lv_aload_n hx hb dX1_years_22 rfl (lv_at hl 2 rfl) ?_
        obtain ⟨V9, hc9, hf⟩ := o_b1s hf
        have hp9 : List.Perm [vW g adV V6, gW L kd nu aa] ([vW g adV V6] ++ [gW L kd nu aa]) := b_perm [0] [1] 2 rfl rfl rfl rfl
        refine b_call0 ⟨rfl, rfl⟩ (va_runV (As := []) (rest := []) ⟨hx, hb, hml, hown, hts⟩ (m_X1_ages l D g H.size adV fu V6 V9 hc9) (cwV 0 hts (lw_V q1280 q1281 q1282 q77 q1283) rfl rfl rfl (by decide +kernel) ⟨Nat.le_of_ble_eq_true rfl, Nat.le_of_ble_eq_true rfl⟩) (b_preV (pp := 0) (q := 0) hW hp9 rfl vW_0 rfl) rfl rfl hl.1 rfl (lv_room (Nat.le_of_ble_eq_true rfl)) dX1_years_23 ⟨Nat.le_of_ble_eq_true rfl, Nat.le_of_ble_eq_true rfl⟩) hW hp9 (fun _ _ H locs hW => ?_)
        have hW : bW D g A s H locs [vW g adV V9, gW L kd nu aa] := hW
        obtain ⟨v10, ev10, hf⟩ := o_ls hf
        refine lv_iinc (v := v10) (lv' := [(4, .int v10), (3, .int v8), (0, .ref (adV 0)), (1, .int x1), (2, .int x2)]) hx hb dX1_years_26 hl (k := 1) rfl ev10 (by decide) rfl (fun ls hl => ?_)
        refine lv_goto (tgt := 5) hx hb dX1_years_29 (by decide) ?_
        exact ih1 _ _ _ _ _ _ hW (lv_sub hl [0, 1, 2, 3, 4] rfl) hf
  exact L1 _ _ _ _ _ _ _ hW (lv_sub hl [0, 1, 2, 3, 4] rfl) hf
def f_X1_yearsOfOwn_L4 (L : List Nat) (kd : Nat → Nat) (nu : Nat → Int32) (aa : Nat → Int32) (x1 : Int32) (fu : Nat) (rec1 : (Int32 × Int32 × BC) → Option (Int32 × BC)) : Int32 × Int32 × BC → Option (Int32 × BC)
  | (v2, v3, V4) =>
    (if x1 ≤ v3 then
     some (v2, V4)
     else
     o_b1 (f_X1_night fu V4 L kd nu aa) fun (V6 : BC) =>
     o_b1 (f_X1_joyOfOwn fu V6 L kd nu aa) fun (r7 : Int32) =>
     o_lt (v2 + r7) fun (v8 : Int32) =>
     o_b1 (f_X1_ages fu V6) fun (V9 : BC) =>
     o_lt (v3 + 1) fun (v10 : Int32) =>
     rec1 (v8, v10, V9))
def f_X1_yearsOfOwn (fu : Nat) (V : BC) (L : List Nat) (kd : Nat → Nat) (nu : Nat → Int32) (aa : Nat → Int32) (x1 : Int32) : Option (Int32 × BC) :=
 o_lp (f_X1_yearsOfOwn_L4 L kd nu aa x1 fu) fu (0, 0, V)
abbrev rm_X1_yearsOfOwn : Room := { frames := 7, cells := 0, slots := 0, locals := 164 }
set_option maxHeartbeats 4000000 in
set_option maxRecDepth 100000 in
theorem m_X1_yearsOfOwn (l : Launch) (D : va_G) (g : Nat → ClassId) (sz : Nat) (adV : Nat → Nat) (fu : Nat) (V : BC) (L : List Nat) (kd : Nat → Nat) (nu : Nat → Int32) (aa : Nat → Int32) (x1 : Int32) (rO : Int32) (VO : BC) (hf : f_X1_yearsOfOwn fu V L kd nu aa x1 = some (rO, VO)) : bMet (S := Unit) l yX1_yearsOfOwn (ws_ yX1_yearsOfOwn cX1_yearsOfOwn 4 (some .int)) rm_X1_yearsOfOwn D g sz [.ref (adV 0), .int x1] [vW g adV V, gW L kd nu aa] (fun _ => True) (fun _ => some (.int rO)) (fun _ => [vW g adV VO, gW L kd nu aa]) := by
  refine b_met (by decide) (Nat.le_of_ble_eq_true rfl) ?_
  intro p e s m args below meth c A Q ls hx hb hml hr hlk hown hname hts hE hl hW
  revert hW; generalize s.heap = H; intro hW
  have hl : lv_has ls 4 [(0, .ref (adV 0)), (1, .int x1)] := hl
  rw [f_X1_yearsOfOwn] at hf
  refine lv_iconst (v := 0) hx hb dX1_yearsOfOwn_0 (by decide) ?_
  refine lv_istore_n (lv' := [(2, .int 0), (0, .ref (adV 0)), (1, .int x1)]) hx hb dX1_yearsOfOwn_1 rfl hl (by decide) rfl (fun ls hl => ?_)
  refine lv_iconst (v := 0) hx hb dX1_yearsOfOwn_2 (by decide) ?_
  refine lv_istore_n (lv' := [(3, .int 0), (2, .int 0), (0, .ref (adV 0)), (1, .int x1)]) hx hb dX1_yearsOfOwn_3 rfl hl (by decide) rfl (fun ls hl => ?_)
  obtain ⟨stp1, est1, hf⟩ := o_ln hf
  have L1 : ∀ (n : Nat) (v2 : Int32) (v3 : Int32) (V4 : BC) (H : Heap) (locs : List Loc) (ls : Array Slot), bW D g A s H locs [vW g adV V4, gW L kd nu aa] → lv_has ls 4 [(3, .int v3), (2, .int v2), (0, .ref (adV 0)), (1, .int x1)] → o_lp stp1 n (v2, v3, V4) = some (rO, VO) → W p l e rm_X1_yearsOfOwn s m args below meth c H locs 0 0 Q (F0 m 4 ls []) := by
    intro n1
    induction n1 with
    | zero => intro v2 v3 V4 H locs ls hW hl hf; exact (o_lz hf).elim
    | succ n1 ih1 =>
      intro v2 v3 V4 H locs ls hW hl hf
      have hf := o_lu est1 hf
      rw [f_X1_yearsOfOwn_L4] at hf
      refine lv_iload_n hx hb dX1_yearsOfOwn_4 rfl (lv_at hl 0 rfl) ?_
      refine lv_iload_n hx hb dX1_yearsOfOwn_5 rfl (lv_at hl 3 rfl) ?_
      refine lv_icmp_ge (tgt := 29) hx hb dX1_yearsOfOwn_6 (by decide) (fun c5 => ?_) (fun c5 => ?_)
      · have hf := o_t hf c5
        refine lv_iload_n hx hb dX1_yearsOfOwn_29 rfl (lv_at hl 1 rfl) ?_
        cases hf
        exact b_iret hx hb hr hlk hE hW () rfl trivial rfl dX1_yearsOfOwn_30
      · have hf := o_f hf c5
        refine lv_iload_n hx hb dX1_yearsOfOwn_9 rfl (lv_at hl 1 rfl) ?_
        refine lv_aload_n hx hb dX1_yearsOfOwn_10 rfl (lv_at hl 2 rfl) ?_
        obtain ⟨V6, hc6, hf⟩ := o_b1s hf
        have hp6 : List.Perm [vW g adV V4, gW L kd nu aa] ([vW g adV V4, gW L kd nu aa] ++ []) := b_perm [0, 1] [] 2 rfl rfl rfl rfl
        refine b_call0 ⟨rfl, rfl⟩ (va_runV (As := []) (rest := [.int v2]) ⟨hx, hb, hml, hown, hts⟩ (m_X1_night l D g H.size adV fu V4 L kd nu aa V6 hc6) (cwV 0 hts (lw_V q1278 q1136 q1137 q77 q1138) rfl rfl rfl (by decide +kernel) ⟨Nat.le_of_ble_eq_true rfl, Nat.le_of_ble_eq_true rfl⟩) (b_preV (pp := 0) (q := 0) hW hp6 rfl vW_0 rfl) rfl rfl hl.1 rfl (lv_room (Nat.le_of_ble_eq_true rfl)) dX1_yearsOfOwn_11 ⟨Nat.le_of_ble_eq_true rfl, Nat.le_of_ble_eq_true rfl⟩) hW hp6 (fun _ _ H locs hW => ?_)
        have hW : bW D g A s H locs [vW g adV V6, gW L kd nu aa] := hW
        obtain ⟨r7, hc7, hf⟩ := o_b1s hf
        have hp7 : List.Perm [vW g adV V6, gW L kd nu aa] ([vW g adV V6, gW L kd nu aa] ++ []) := b_perm [0, 1] [] 2 rfl rfl rfl rfl
        refine b_call0 ⟨rfl, rfl⟩ (va_runV (As := []) (rest := [.int v2]) ⟨hx, hb, hml, hown, hts⟩ (m_X1_joyOfOwn l D g H.size adV fu V6 L kd nu aa r7 hc7) (cwV 0 hts (lw_V q1368 q1369 q1370 q77 q1371) rfl rfl rfl (by decide +kernel) ⟨Nat.le_of_ble_eq_true rfl, Nat.le_of_ble_eq_true rfl⟩) (b_preV (pp := 0) (q := 0) hW hp7 rfl vW_0 rfl) rfl rfl hl.1 rfl (lv_room (Nat.le_of_ble_eq_true rfl)) dX1_yearsOfOwn_14 ⟨Nat.le_of_ble_eq_true rfl, Nat.le_of_ble_eq_true rfl⟩) hW hp7 (fun _ _ H locs hW => ?_)
        have hW : bW D g A s H locs [vW g adV V6, gW L kd nu aa] := hW
        refine lv_iadd hx hb dX1_yearsOfOwn_17 ?_
        obtain ⟨v8, ev8, hf⟩ := o_ls hf
        refine b_topi ev8 ?_
        refine lv_istore_n (lv' := [(2, .int v8), (3, .int v3), (0, .ref (adV 0)), (1, .int x1)]) hx hb dX1_yearsOfOwn_18 rfl hl (by decide) rfl (fun ls hl => ?_)
        refine lv_aload_n hx hb dX1_yearsOfOwn_19 rfl (lv_at hl 2 rfl) ?_
        obtain ⟨V9, hc9, hf⟩ := o_b1s hf
        have hp9 : List.Perm [vW g adV V6, gW L kd nu aa] ([vW g adV V6] ++ [gW L kd nu aa]) := b_perm [0] [1] 2 rfl rfl rfl rfl
        refine b_call0 ⟨rfl, rfl⟩ (va_runV (As := []) (rest := []) ⟨hx, hb, hml, hown, hts⟩ (m_X1_ages l D g H.size adV fu V6 V9 hc9) (cwV 0 hts (lw_V q1280 q1281 q1282 q77 q1283) rfl rfl rfl (by decide +kernel) ⟨Nat.le_of_ble_eq_true rfl, Nat.le_of_ble_eq_true rfl⟩) (b_preV (pp := 0) (q := 0) hW hp9 rfl vW_0 rfl) rfl rfl hl.1 rfl (lv_room (Nat.le_of_ble_eq_true rfl)) dX1_yearsOfOwn_20 ⟨Nat.le_of_ble_eq_true rfl, Nat.le_of_ble_eq_true rfl⟩) hW hp9 (fun _ _ H locs hW => ?_)
        have hW : bW D g A s H locs [vW g adV V9, gW L kd nu aa] := hW
        obtain ⟨v10, ev10, hf⟩ := o_ls hf
        refine lv_iinc (v := v10) (lv' := [(3, .int v10), (2, .int v8), (0, .ref (adV 0)), (1, .int x1)]) hx hb dX1_yearsOfOwn_23 hl (k := 1) rfl ev10 (by decide) rfl (fun ls hl => ?_)
        refine lv_goto (tgt := 4) hx hb dX1_yearsOfOwn_26 (by decide) ?_
        exact ih1 _ _ _ _ _ _ hW (lv_sub hl [0, 1, 2, 3] rfl) hf
  exact L1 _ _ _ _ _ _ _ hW (lv_sub hl [0, 1, 2, 3] rfl) hf
