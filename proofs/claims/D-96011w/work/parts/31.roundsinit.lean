/-! Rounds: the constructor: printed by gen/all.py -/
set_option maxRecDepth 100000
def f_X13_init (fu : Nat) (X N T : BC) (L : List Nat) (kd : Nat → Nat) (nu aa : Nat → Int32) (x2 : Int32) : Option (BC × BC) :=
 o_lt (bI zBC 0 (upd (zBC.1 0) 0 x2)) fun (S9 : BC) =>
 o_b2 (f_X13_goes_0 fu S9 X N T L kd nu aa 0) fun (S3 : BC) (T4 : BC) =>
 some (S3, T4)
abbrev rm_X13_init : Room := { frames := 13, cells := 2, slots := 6, locals := 299 }
set_option maxHeartbeats 4000000 in
set_option maxRecDepth 100000 in
theorem m_X13_init (l : Launch) (D : va_G) (g : Nat → ClassId) (sz : Nat) (a : Nat) (adX : Nat → Nat) (iX : Option Nat) (adN adT : Nat → Nat) (fu : Nat) (X N T : BC) (L : List Nat) (kd : Nat → Nat) (nu aa : Nat → Int32) (x2 : Int32) (SO TO : BC) (hf : f_X13_init fu X N T L kd nu aa x2 = some (SO, TO)) : bMet (S := Nat → Nat) l yX13_init (ws_ yX13_init cX13_init 3 none) rm_X13_init D g sz [.ref a, .ref (adX 0), .int x2] [[(a, .inr (13, [.int 0, .null, .null, .int 0, .int 0, .null]))], xW g adX (adN 0) (adT 0) iX X, vW g adN N, vW g adT T, gW L kd nu aa] (fun ad => ad 0 = a) (fun _ => none) (fun ad => [sW g ad (adX 0) SO, xW g adX (adN 0) (adT 0) iX X, vW g adN N, vW g adT TO, gW L kd nu aa]) := by
  refine b_met (by decide) (Nat.le_of_ble_eq_true rfl) ?_
  intro p e s m args below meth c A Q ls hx hb hml hr hlk hown hname hts hE hl hW
  revert hW; generalize s.heap = H; intro hW
  have hl : lv_has ls 3 [(0, .ref a), (1, .ref (adX 0)), (2, .int x2)] := hl
  rw [f_X13_init] at hf
  refine lv_aload_n hx hb dX13_init_0 rfl (lv_at hl 0 rfl) ?_
  refine lv_aload_n hx hb dX13_init_1 rfl (lv_at hl 1 rfl) ?_
  refine b_putF hx hb hts in_X13 tyX13 tyX13_ok nmX13 hown hW 0 0 13 5 rfl rfl rfl rfl rfl (by decide) ⟨rfl, rfl, rfl⟩ (hts _ q1346) rfl hname rfl (ty := (.object "EverybodyHasTheBook")) rfl rfl rfl (Nat.le_of_ble_eq_true rfl) dX13_init_2 (fun H locs hW => ?_)
  have hW : bW D g A s H _ [[(a, .inr (13, [.int 0, .null, .null, .int 0, .int 0, .ref (adX 0)]))], xW g adX (adN 0) (adT 0) iX X, vW g adN N, vW g adT T, gW L kd nu aa] := hW
  refine lv_aload_n hx hb dX13_init_5 rfl (lv_at hl 0 rfl) ?_
  refine W.objInit hx hb hown (hts _ q1327) (hts _ q116) (hts _ q117) rfl (by rw [hml]; exact hl.1) rfl dX13_init_6 (Nat.le_of_ble_eq_true rfl) (Nat.le_of_ble_eq_true rfl) ?_
  refine W.eq (g2 := F0 m 9 ls []) rfl ?_
  refine lv_aload_n hx hb dX13_init_9 rfl (lv_at hl 0 rfl) ?_
  refine lv_iconst (v := 3) hx hb dX13_init_10 (by decide) ?_
  refine b_newa (atype := .int) hx hb (hts _ q214) (ty := .int) rfl hW 0 rfl (N' := 3) (a0 := (3, .inl (fun _ => 0))) (fun cA => rfl) (by decide) (by decide) (by decide) (Nat.le_of_ble_eq_true rfl) (Nat.le_of_ble_eq_true rfl) dX13_init_11 (fun z1 H hW => ?_)
  refine W.cs (cells' := 1) (slots' := 3) rfl rfl ?_
  have hW : bW D g A s H _ [[(a, .inr (13, [.int 0, .null, .null, .int 0, .int 0, .ref (adX 0)]))], xW g adX (adN 0) (adT 0) iX X, vW g adN N, vW g adT T, gW L kd nu aa, [(z1, .inl (g 0, 3, .inl (fun _ => 0)))]] := hW
  refine b_putF hx hb hts in_X13 tyX13 tyX13_ok nmX13 hown hW 0 0 13 1 rfl rfl rfl rfl rfl (by decide) ⟨rfl, rfl, rfl⟩ (hts _ q1340) rfl hname rfl (ty := (.array .int)) rfl rfl rfl (Nat.le_of_ble_eq_true rfl) dX13_init_13 (fun H locs hW => ?_)
  have hW : bW D g A s H _ [[(a, .inr (13, [.int 0, .ref z1, .null, .int 0, .int 0, .ref (adX 0)]))], xW g adX (adN 0) (adT 0) iX X, vW g adN N, vW g adT T, gW L kd nu aa, [(z1, .inl (g 0, 3, .inl (fun _ => 0)))]] := hW
  refine lv_aload_n hx hb dX13_init_16 rfl (lv_at hl 0 rfl) ?_
  refine lv_iconst (v := 3) hx hb dX13_init_17 (by decide) ?_
  refine b_newa (atype := .int) hx hb (hts _ q214) (ty := .int) rfl hW 0 rfl (N' := 3) (a0 := (3, .inl (fun _ => 0))) (fun cA => rfl) (by decide) (by decide) (by decide) (Nat.le_of_ble_eq_true rfl) (Nat.le_of_ble_eq_true rfl) dX13_init_18 (fun z2 H hW => ?_)
  refine W.cs (cells' := 2) (slots' := 6) rfl rfl ?_
  have hW : bW D g A s H _ [[(a, .inr (13, [.int 0, .ref z1, .null, .int 0, .int 0, .ref (adX 0)]))], xW g adX (adN 0) (adT 0) iX X, vW g adN N, vW g adT T, gW L kd nu aa, [(z1, .inl (g 0, 3, .inl (fun _ => 0)))], [(z2, .inl (g 0, 3, .inl (fun _ => 0)))]] := hW
  refine b_putF hx hb hts in_X13 tyX13 tyX13_ok nmX13 hown hW 0 0 13 2 rfl rfl rfl rfl rfl (by decide) ⟨rfl, rfl, rfl⟩ (hts _ q1341) rfl hname rfl (ty := (.array .int)) rfl rfl rfl (Nat.le_of_ble_eq_true rfl) dX13_init_20 (fun H locs hW => ?_)
  have hW : bW D g A s H _ [[(a, .inr (13, [.int 0, .ref z1, .ref z2, .int 0, .int 0, .ref (adX 0)]))], xW g adX (adN 0) (adT 0) iX X, vW g adN N, vW g adT T, gW L kd nu aa, [(z1, .inl (g 0, 3, .inl (fun _ => 0)))], [(z2, .inl (g 0, 3, .inl (fun _ => 0)))]] := hW
  refine lv_aload_n hx hb dX13_init_23 rfl (lv_at hl 0 rfl) ?_
  refine lv_iload_n hx hb dX13_init_24 rfl (lv_at hl 2 rfl) ?_
  refine b_putF hx hb hts in_X13 tyX13 tyX13_ok nmX13 hown hW 0 0 13 0 rfl rfl rfl rfl rfl (by decide) ⟨rfl, rfl, rfl⟩ (hts _ q1339) rfl hname rfl (ty := .int) rfl rfl rfl (Nat.le_of_ble_eq_true rfl) dX13_init_25 (fun H locs hW => ?_)
  have hW : bW D g A s H _ [[(a, .inr (13, [.int x2, .ref z1, .ref z2, .int 0, .int 0, .ref (adX 0)]))], xW g adX (adN 0) (adT 0) iX X, vW g adN N, vW g adT T, gW L kd nu aa, [(z1, .inl (g 0, 3, .inl (fun _ => 0)))], [(z2, .inl (g 0, 3, .inl (fun _ => 0)))]] := hW
  have hW := b_perms hW (Bs' := [[(a, .inr (13, [.int x2, .ref z1, .ref z2, .int 0, .int 0, .ref (adX 0)]))], [(z1, .inl (g 0, 3, .inl (fun _ => 0)))], [(z2, .inl (g 0, 3, .inl (fun _ => 0)))], xW g adX (adN 0) (adT 0) iX X, vW g adN N, vW g adT T, gW L kd nu aa]) (b_ord [0, 5, 6, 1, 2, 3, 4] 7 rfl rfl rfl)
  obtain ⟨S9, eS9, hf⟩ := o_ls hf
  obtain ⟨adS, hadS, hW⟩ : ∃ adS : Nat → Nat, adS 0 = a ∧ bW D g A s H _ [sW g adS (adX 0) S9, xW g adX (adN 0) (adT 0) iX X, vW g adN N, vW g adT T, gW L kd nu aa] := ⟨fun k => ([a, z1, z2] : List Nat).getD k 0, rfl, by subst eS9; exact hW⟩
  rw [← hadS] at hl
  refine lv_aload_n hx hb dX13_init_28 rfl (lv_at hl 0 rfl) ?_
  refine lv_iconst (v := 0) hx hb dX13_init_29 (by decide) ?_
  obtain ⟨S3, T4, hc4, hf⟩ := o_b2s hf
  have hp4 : List.Perm [sW g adS (adX 0) S9, xW g adX (adN 0) (adT 0) iX X, vW g adN N, vW g adT T, gW L kd nu aa] ([sW g adS (adX 0) S9, xW g adX (adN 0) (adT 0) iX X, vW g adN N, vW g adT T, gW L kd nu aa] ++ []) := b_perm [0, 1, 2, 3, 4] [] 5 rfl rfl rfl rfl
  refine b_call0 ⟨rfl, rfl⟩ (va_runV (As := [.int 0]) (rest := []) ⟨hx, hb, hml, hown, hts⟩ (m_X13_goes_0 l D g H.size adS adX iX adN adT fu S9 X N T L kd nu aa 0 S3 T4 hc4) (cwV 1 hts (lw_V q1328 q1330 qs28 q109 q1331) rfl rfl rfl (by decide +kernel) ⟨Nat.le_of_ble_eq_true rfl, Nat.le_of_ble_eq_true rfl⟩) (b_preV (pp := 0) (q := 0) hW hp4 rfl sW_0 rfl) rfl rfl hl.1 rfl (lv_room (Nat.le_of_ble_eq_true rfl)) dX13_init_30 ⟨Nat.le_of_ble_eq_true rfl, Nat.le_of_ble_eq_true rfl⟩) hW hp4 (fun _ _ H locs hW => ?_)
  have hW : bW D g A s H locs [sW g adS (adX 0) S3, xW g adX (adN 0) (adT 0) iX X, vW g adN N, vW g adT T4, gW L kd nu aa] := hW
  cases hf
  exact b_vret hx hb hr hlk hE hW adS rfl hadS rfl dX13_init_33
