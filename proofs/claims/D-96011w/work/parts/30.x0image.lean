/-! EverybodyHasTheBook: image(): printed by gen/all.py -/
set_option maxRecDepth 100000
abbrev rm_X0_image : Room := { frames := 3, cells := 19, slots := 125, locals := 105 }
set_option maxHeartbeats 4000000 in
set_option maxRecDepth 100000 in
theorem m_X0_image (l : Launch) (D : va_G) (g : Nat → ClassId) (sz : Nat) (adX : Nat → Nat) (iX : Option Nat) (adN adT : Nat → Nat) (X N : BC) (L : List Nat) (kd : Nat → Nat) (nu aa : Nat → Int32) (IO : BC) (hf : f_X1_copied N L kd nu aa = some IO) : bMet (S := Nat → Nat) l yX0_image (ws_ yX0_image cX0_image 1 (some .int)) rm_X0_image D g sz [.ref (adX 0)] [xW g adX (adN 0) (adT 0) iX X, vW g adN N, gW L kd nu aa] (fun _ => True) (fun _ => some (.int 1)) (fun ad => [xW g adX (adN 0) (adT 0) (some (ad 0)) X, vW g adN N, gW L kd nu aa, vW g ad IO]) := by
  refine b_met (by decide) (Nat.le_of_ble_eq_true rfl) ?_
  intro p e s m args below meth c A Q ls hx hb hml hr hlk hown hname hts hE hl hW
  revert hW; generalize s.heap = H; intro hW
  have hl : lv_has ls 1 [(0, .ref (adX 0))] := hl
  refine lv_aload_n hx hb dX0_image_0 rfl (lv_at hl 0 rfl) ?_
  refine lv_aload_n hx hb dX0_image_1 rfl (lv_at hl 0 rfl) ?_
  refine b_get hx hb hts in_X0 hown hW 0 0 0 0 rfl xW_0 rfl (by decide) ⟨rfl, rfl, rfl⟩ (hts _ q227) (v := .ref (adN 0)) rfl dX0_image_2 ?_
  have hp : List.Perm ([xW g adX (adN 0) (adT 0) iX X, vW g adN N, gW L kd nu aa] : List va_W) ([vW g adN N, gW L kd nu aa] ++ [xW g adX (adN 0) (adT 0) iX X]) := b_perm [1, 2] [0] 3 rfl rfl rfl rfl
  refine b_call (va_runV (As := []) (rest := [.ref (adX 0)]) ⟨hx, hb, hml, hown, hts⟩ (m_X1_copied l D g H.size adN N L kd nu aa IO hf) (cwV 0 hts (lw_V q727 q728 q729 q77 q730) rfl rfl rfl (by decide +kernel) ⟨Nat.le_of_ble_eq_true rfl, Nat.le_of_ble_eq_true rfl⟩) (b_preV (pp := 1) (q := 0) hW hp rfl vW_0 rfl) rfl rfl hl.1 rfl (lv_room (Nat.le_of_ble_eq_true rfl)) dX0_image_5 ⟨Nat.le_of_ble_eq_true rfl, Nat.le_of_ble_eq_true rfl⟩) hW hp (fun ad _ H locs hW => ?_)
  have hW : bW D g A s H locs [vW g adN N, gW L kd nu aa, vW g ad IO, xW g adX (adN 0) (adT 0) iX X] := hW
  refine b_put hx hb hts in_X0 tyX0 tyX0_ok nmX0 hown hW 3 0 0 1 (v := .ref (ad 0)) (w' := xW g adX (adN 0) (adT 0) (some (ad 0)) X) (Bs' := [vW g adN N, gW L kd nu aa, vW g ad IO, xW g adX (adN 0) (adT 0) (some (ad 0)) X]) rfl xW_0 rfl rfl rfl (by decide) ⟨rfl, rfl, rfl⟩ (hts _ q228) rfl (ty := .object "EverybodyHasTheBook$Valley") rfl rfl rfl (Nat.le_of_ble_eq_true rfl) dX0_image_8 (fun H locs hW => ?_)
  refine lv_iconst (v := 1) hx hb dX0_image_11 (by decide) ?_
  refine W.cs (cells' := 19) (slots' := 125) rfl rfl ?_
  exact b_iret hx hb hr hlk hE (b_perms hW (b_ord [3, 0, 1, 2] 4 rfl rfl rfl)) ad rfl trivial rfl dX0_image_12
