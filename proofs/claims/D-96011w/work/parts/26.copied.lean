/-! Valley.copied(): printed by gen/all.py -/
set_option maxRecDepth 100000

def zV : BC := bI zBC 0 (upd (zBC.1 0) 3 1)
def f_X1_copied (V : BC) (L : List Nat) (kd : Nat → Nat) (nu aa : Nat → Int32) : Option BC := f_X1_becomes zV V L kd nu aa
abbrev rm_X1_copied : Room := { frames := 2, cells := 19, slots := 125, locals := 85 }
set_option maxHeartbeats 4000000 in
set_option maxRecDepth 100000 in
theorem m_X1_copied (l : Launch) (D : va_G) (g : Nat → ClassId) (sz : Nat) (adV : Nat → Nat) (V : BC) (L : List Nat) (kd : Nat → Nat) (nu aa : Nat → Int32) (VO : BC) (hf : f_X1_copied V L kd nu aa = some VO) : bMet (S := Nat → Nat) l yX1_copied (ws_ yX1_copied cX1_copied 1 (some (.object "EverybodyHasTheBook$Valley"))) rm_X1_copied D g sz [.ref (adV 0)] [vW g adV V, gW L kd nu aa] (fun _ => True) (fun ad => some (.ref (ad 0))) (fun ad => [vW g adV V, gW L kd nu aa, vW g ad VO]) := by
  refine b_met (by decide) (Nat.le_of_ble_eq_true rfl) ?_
  intro p e s m args below meth c A Q ls hx hb hml hr hlk hown hname hts hE hl hW
  revert hW; generalize s.heap = H; intro hW
  have hl : lv_has ls 1 [(0, .ref (adV 0))] := hl
  rw [f_X1_copied] at hf
  refine b_new (ci := 1) (fs := [.null, .null, .null, .null, .null, .null, .null, .null, .null, .null, .null, .null, .int 0, .int 0, .int 0, .int 0, .int 0]) hx hb hts in_X1 tyX1 tyX1_ok hown (hts _ q731) (hts _ q119) (hts _ q77) hW rfl (by intro j hj; rcases (show j = 0 ∨ j = 1 ∨ j = 2 ∨ j = 3 ∨ j = 4 ∨ j = 5 ∨ j = 6 ∨ j = 7 ∨ j = 8 ∨ j = 9 ∨ j = 10 ∨ j = 11 ∨ j = 12 ∨ j = 13 ∨ j = 14 ∨ j = 15 ∨ j = 16 by omega) with rfl | rfl | rfl | rfl | rfl | rfl | rfl | rfl | rfl | rfl | rfl | rfl | rfl | rfl | rfl | rfl | rfl <;> rfl) (Nat.le_of_ble_eq_true rfl) (Nat.le_of_ble_eq_true rfl) dX1_copied_0 (fun z H hW => ?_)
  have hW : bW D g A s H [] [vW g adV V, gW L kd nu aa, [(z, .inr (1, [.null, .null, .null, .null, .null, .null, .null, .null, .null, .null, .null, .null, .int 0, .int 0, .int 0, .int 0, .int 0]))]] := hW
  refine lv_dup hx hb dX1_copied_3 rfl ?_
  have hp : List.Perm ([vW g adV V, gW L kd nu aa, [(z, .inr (1, [.null, .null, .null, .null, .null, .null, .null, .null, .null, .null, .null, .null, .int 0, .int 0, .int 0, .int 0, .int 0]))]] : List va_W) ([[(z, .inr (1, [.null, .null, .null, .null, .null, .null, .null, .null, .null, .null, .null, .null, .int 0, .int 0, .int 0, .int 0, .int 0]))]] ++ [vW g adV V, gW L kd nu aa]) := b_perm [2] [0, 1] 3 rfl rfl rfl rfl
  refine b_call (va_runI (As := []) (rest := [.ref z]) ⟨hx, hb, hml, hown, hts⟩ (m_X1_init l D g H.size z) (cwI 0 hts (lw_meth q122) rfl rfl rfl (hts _ q77) (hts _ q732) (hts _ q121) rfl (by decide +kernel) ⟨Nat.le_of_ble_eq_true rfl, Nat.le_of_ble_eq_true rfl⟩) (b_preS hW hp) rfl rfl hl.1 rfl (lv_room (Nat.le_of_ble_eq_true rfl)) dX1_copied_4 ⟨Nat.le_of_ble_eq_true rfl, Nat.le_of_ble_eq_true rfl⟩) hW hp (fun ad had H locs hW => ?_)
  have hW : bW D g A s H locs [vW g ad zV, vW g adV V, gW L kd nu aa] := hW
  have had : ad 0 = z := had
  refine lv_aload_n hx hb dX1_copied_7 rfl (lv_at hl 0 rfl) ?_
  have hp : List.Perm ([vW g ad zV, vW g adV V, gW L kd nu aa] : List va_W) ([vW g ad zV, vW g adV V, gW L kd nu aa] ++ []) := b_perm [0, 1, 2] [] 3 rfl rfl rfl rfl
  rw [← had]
  refine b_call (va_runV (As := [.ref (adV 0)]) (rest := []) ⟨hx, hb, hml, hown, hts⟩ (m_X1_becomes l D g H.size ad adV zV V L kd nu aa VO hf) (cwV 1 hts (lw_V q733 q734 q735 q77 q736) rfl rfl rfl (by decide +kernel) ⟨Nat.le_of_ble_eq_true rfl, Nat.le_of_ble_eq_true rfl⟩) (b_preV (pp := 0) (q := 0) hW hp rfl vW_0 rfl) rfl rfl hl.1 rfl (lv_room (Nat.le_of_ble_eq_true rfl)) dX1_copied_8 ⟨Nat.le_of_ble_eq_true rfl, Nat.le_of_ble_eq_true rfl⟩) hW hp (fun _ _ H locs hW => ?_)
  have hW : bW D g A s H locs [vW g ad VO, vW g adV V, gW L kd nu aa] := hW
  exact b_aret hx hb hr (Or.inl ⟨_, rfl⟩) hlk hE (b_perms hW (b_ord [1, 2, 0] 3 rfl rfl rfl)) ad rfl trivial (Or.inr ⟨_, rfl⟩) rfl dX1_copied_11
