/-! VALLEY(): printed by gen/all.py -/
set_option maxRecDepth 100000
abbrev rm_X11_init : Room := { frames := 1, cells := 0, slots := 0, locals := 24 }
set_option maxHeartbeats 4000000 in
set_option maxRecDepth 100000 in
theorem m_X11_init (l : Launch) (D : va_G) (g : Nat → ClassId) (sz : Nat) (a tp vl : Nat) (x2 : Int32) : bMet (S := Unit) l yX11_init (ws_ yX11_init cX11_init 4 none) rm_X11_init D g sz [.ref a, .ref tp, .int x2, .ref vl] [[(a, .inr (11, [.null, .int 0, .null, .int 0, .int 0, .null, .int 0]))]] (fun _ => True) (fun _ => none) (fun _ => [[(a, .inr (11, [.ref tp, .int x2, .ref vl, .int 0, .int 0, .null, .int 0]))]]) := by
  refine b_met (by decide) (Nat.le_of_ble_eq_true rfl) ?_
  intro p e s m args below meth c A Q ls hx hb hml hr hlk hown hname hts hE hl hW
  revert hW; generalize s.heap = H; intro hW
  have hl : lv_has ls 4 [(0, .ref a), (1, .ref tp), (2, .int x2), (3, .ref vl)] := hl
  refine lv_aload_n hx hb dX11_init_0 rfl (lv_at hl 0 rfl) ?_
  refine W.objInit hx hb hown (hts _ q741) (hts _ q116) (hts _ q117) rfl (by rw [hml]; exact hl.1) rfl dX11_init_1 (Nat.le_of_ble_eq_true rfl) (Nat.le_of_ble_eq_true rfl) ?_
  refine W.eq (g2 := F0 m 4 ls []) rfl ?_
  refine lv_aload_n hx hb dX11_init_4 rfl (lv_at hl 0 rfl) ?_
  refine lv_aload_n hx hb dX11_init_5 rfl (lv_at hl 1 rfl) ?_
  refine b_putF hx hb hts in_X11 tyX11 tyX11_ok nmX11 hown hW 0 0 11 0 rfl rfl rfl rfl rfl (by decide) ⟨rfl, rfl, rfl⟩ (hts _ q742) rfl hname rfl (ty := (.array .int)) rfl rfl rfl (Nat.le_of_ble_eq_true rfl) dX11_init_6 (fun H locs hW => ?_)
  have hW : bW D g A s H _ [[(a, .inr (11, [.ref tp, .int 0, .null, .int 0, .int 0, .null, .int 0]))]] := hW
  refine lv_aload_n hx hb dX11_init_9 rfl (lv_at hl 0 rfl) ?_
  refine lv_iload_n hx hb dX11_init_10 rfl (lv_at hl 2 rfl) ?_
  refine b_putF hx hb hts in_X11 tyX11 tyX11_ok nmX11 hown hW 0 0 11 1 rfl rfl rfl rfl rfl (by decide) ⟨rfl, rfl, rfl⟩ (hts _ q743) rfl hname rfl (ty := .int) rfl rfl rfl (Nat.le_of_ble_eq_true rfl) dX11_init_11 (fun H locs hW => ?_)
  have hW : bW D g A s H _ [[(a, .inr (11, [.ref tp, .int x2, .null, .int 0, .int 0, .null, .int 0]))]] := hW
  refine lv_aload_n hx hb dX11_init_14 rfl (lv_at hl 0 rfl) ?_
  refine lv_aload_n hx hb dX11_init_15 rfl (lv_at hl 3 rfl) ?_
  refine b_putF hx hb hts in_X11 tyX11 tyX11_ok nmX11 hown hW 0 0 11 2 rfl rfl rfl rfl rfl (by decide) ⟨rfl, rfl, rfl⟩ (hts _ q744) rfl hname rfl (ty := (.object "EverybodyHasTheBook$Valley")) rfl rfl rfl (Nat.le_of_ble_eq_true rfl) dX11_init_16 (fun H locs hW => ?_)
  have hW : bW D g A s H _ [[(a, .inr (11, [.ref tp, .int x2, .ref vl, .int 0, .int 0, .null, .int 0]))]] := hW
  exact b_vret hx hb hr hlk hE hW () rfl trivial rfl dX11_init_19
def f_X0_valley (fu : Nat) (g : Nat → Nat) (X : BC) (N : BC) (L : List Nat) (kd : Nat → Nat) (nu : Nat → Int32) (aa : Nat → Int32) (post : Int32 → BC → BC → List Nat → (Nat → Nat) → (Nat → Int32) → (Nat → Int32) → Prop) : Prop :=
 q_b1 (f_X1_copied N L kd nu aa) fun (N3 : BC) =>
 q_lt (bI zBC 0 (upd (zBC.1 0) 0 (X.1 0 0))) fun (R6 : BC) =>
 f_X11_read fu g R6 X N3 L kd nu aa none (fun (r21 : Int32) (R22 : BC) (N23 : BC) (L24 : List Nat) (kd25 : (Nat → Nat)) (nu26 : (Nat → Int32)) (aa27 : (Nat → Int32)) (D28 : (Option DT)) =>
 q_lt (bI X 0 (upd (X.1 0) 0 0)) fun (X29 : BC) =>
 post r21 X29 N23 L24 kd25 nu26 aa27) (fun (by16 : Int32) (R9 : BC) (N10 : BC) (L11 : List Nat) (kd12 : (Nat → Nat)) (nu13 : (Nat → Int32)) (aa14 : (Nat → Int32)) (D15 : (Option DT)) => q_b2 (f_X0_no X (-2)) fun (r17 : Int32) (X18 : BC) =>
 q_lt ((-20) - by16) fun (v19 : Int32) =>
 q_lt (bI X18 0 (upd (X18.1 0) 0 0)) fun (X20 : BC) =>
 post v19 X20 N L11 kd12 nu13 aa14)
abbrev rm_X0_valley : Room := { frames := 11, cells := 2095, slots := 69057, locals := 284 }
set_option maxHeartbeats 4000000 in
set_option maxRecDepth 100000 in
theorem m_X0_valley (l : Launch) (D : va_G) (g : Nat → ClassId) (sz : Nat) (adX adN adT : Nat → Nat) (iX : Option Nat) (fu : Nat) (X : BC) (N : BC) (L : List Nat) (kd : Nat → Nat) (nu : Nat → Int32) (aa : Nat → Int32) (post : Int32 → BC → BC → List Nat → (Nat → Nat) → (Nat → Int32) → (Nat → Int32) → Prop) (hf : f_X0_valley fu g X N L kd nu aa post) : bxMet (S := Int32 × BC × BC × List Nat × (Nat → Nat) × (Nat → Int32) × (Nat → Int32) × (Nat → Nat)) (SX := Unit) l yX0_valley (wsW_ yX0_valley cX0_valley 5 (some .int) [(0, 38, 45, 227), (0, 38, 68, 0), (45, 61, 68, 0), (68, 70, 68, 0)]) rm_X0_valley D g sz [.ref (adX 0)] [xW g adX (adN 0) (adT 0) iX X, vW g adN N, gW L kd nu aa] (fun u => post u.1 u.2.1 u.2.2.1 u.2.2.2.1 u.2.2.2.2.1 u.2.2.2.2.2.1 u.2.2.2.2.2.2.1) (fun u => some (.int u.1)) (fun u => [xW g adX (u.2.2.2.2.2.2.2 0) (adT 0) iX u.2.1, vW g u.2.2.2.2.2.2.2 u.2.2.1, gW u.2.2.2.1 u.2.2.2.2.1 u.2.2.2.2.2.1 u.2.2.2.2.2.2.1]) (fun _ _ _ => False) (fun _ => [xW g adX (adN 0) (adT 0) iX X, vW g adN N, gW L kd nu aa]) := by
  refine b_metH (by decide) (Nat.le_of_ble_eq_true rfl) ?_
  intro p e s m args below meth c A Q ls hx hb hml hr hlk hown hname hts htab hE hl hW
  revert hW; generalize s.heap = H; intro hW
  have hl : lv_has ls 5 [(0, .ref (adX 0))] := hl
  rw [f_X0_valley] at hf
  refine b_new (ci := 11) (fs := [.null, .int 0, .null, .int 0, .int 0, .null, .int 0]) hx hb hts in_X11 tyX11 tyX11_ok hown (hts _ q725) (hts _ q726) (hts _ q100) hW rfl (by intro j hj; rcases (show j = 0 ∨ j = 1 ∨ j = 2 ∨ j = 3 ∨ j = 4 ∨ j = 5 ∨ j = 6 by omega) with rfl | rfl | rfl | rfl | rfl | rfl | rfl <;> rfl) (Nat.le_of_ble_eq_true rfl) (Nat.le_of_ble_eq_true rfl) dX0_valley_0 (fun z1 H hW => ?_)
  refine W.cs (cells' := 1) (slots' := 7) rfl rfl ?_
  have hW : bW D g A s H _ [xW g adX (adN 0) (adT 0) iX X, vW g adN N, gW L kd nu aa, [(z1, .inr (11, [.null, .int 0, .null, .int 0, .int 0, .null, .int 0]))]] := hW
  refine lv_dup hx hb dX0_valley_3 rfl ?_
  refine lv_aload_n hx hb dX0_valley_4 rfl (lv_at hl 0 rfl) ?_
  refine b_get hx hb hts in_X0 hown hW 0 0 0 4 rfl xW_0 rfl (by decide) ⟨rfl, rfl, rfl⟩ (hts _ q231) xW_g4 dX0_valley_5 ?_
  refine lv_aload_n hx hb dX0_valley_8 rfl (lv_at hl 0 rfl) ?_
  refine b_get hx hb hts in_X0 hown hW 0 0 0 5 rfl xW_0 rfl (by decide) ⟨rfl, rfl, rfl⟩ (hts _ q232) xW_g5 dX0_valley_9 ?_
  refine lv_aload_n hx hb dX0_valley_12 rfl (lv_at hl 0 rfl) ?_
  refine b_get hx hb hts in_X0 hown hW 0 0 0 0 rfl xW_0 rfl (by decide) ⟨rfl, rfl, rfl⟩ (hts _ q227) xW_g0 dX0_valley_13 ?_
  obtain ⟨N3, hc2, hf⟩ := q_b1s hf
  have hp2 : List.Perm ([xW g adX (adN 0) (adT 0) iX X, vW g adN N, gW L kd nu aa, [(z1, .inr (11, [.null, .int 0, .null, .int 0, .int 0, .null, .int 0]))]] : List va_W) ([vW g adN N, gW L kd nu aa] ++ [xW g adX (adN 0) (adT 0) iX X, [(z1, .inr (11, [.null, .int 0, .null, .int 0, .int 0, .null, .int 0]))]]) := b_perm [1, 2] [0, 3] 4 rfl rfl rfl rfl
  refine b_call (va_runV (As := []) (rest := [.int (X.1 0 0), .ref (adX 10), .ref z1, .ref z1]) ⟨hx, hb, hml, hown, hts⟩ (m_X1_copied l D g H.size adN N L kd nu aa N3 hc2) (cwV 0 hts (lw_V q727 q728 q729 q77 q730) rfl rfl rfl (by decide +kernel) ⟨Nat.le_of_ble_eq_true rfl, Nat.le_of_ble_eq_true rfl⟩) (b_preV (pp := 1) (q := 0) hW hp2 rfl vW_0 rfl) rfl rfl hl.1 rfl (lv_room (Nat.le_of_ble_eq_true rfl)) dX0_valley_16 ⟨Nat.le_of_ble_eq_true rfl, Nat.le_of_ble_eq_true rfl⟩) hW hp2 (fun adN4 _ H locs hW => ?_)
  refine W.cs (cells' := 20) (slots' := 132) rfl rfl ?_
  have hW : bW D g A s H locs [vW g adN N, gW L kd nu aa, vW g adN4 N3, xW g adX (adN 0) (adT 0) iX X, [(z1, .inr (11, [.null, .int 0, .null, .int 0, .int 0, .null, .int 0]))]] := hW
  have hp5 : List.Perm ([vW g adN N, gW L kd nu aa, vW g adN4 N3, xW g adX (adN 0) (adT 0) iX X, [(z1, .inr (11, [.null, .int 0, .null, .int 0, .int 0, .null, .int 0]))]] : List va_W) ([[(z1, .inr (11, [.null, .int 0, .null, .int 0, .int 0, .null, .int 0]))]] ++ [vW g adN N, gW L kd nu aa, vW g adN4 N3, xW g adX (adN 0) (adT 0) iX X]) := b_perm [4] [0, 1, 2, 3] 5 rfl rfl rfl rfl
  refine b_call (va_runI (As := [.ref (adX 10), .int (X.1 0 0), .ref (adN4 0)]) (rest := [.ref z1]) ⟨hx, hb, hml, hown, hts⟩ (m_X11_init l D g H.size z1 (adX 10) (adN4 0) (X.1 0 0)) (cwI 3 hts (lw_meth q740) rfl rfl rfl (hts _ q100) (hts _ q738) (hts _ q739) rfl (by decide +kernel) ⟨Nat.le_of_ble_eq_true rfl, Nat.le_of_ble_eq_true rfl⟩) (b_preS hW hp5) rfl rfl hl.1 rfl (lv_room (Nat.le_of_ble_eq_true rfl)) dX0_valley_19 ⟨Nat.le_of_ble_eq_true rfl, Nat.le_of_ble_eq_true rfl⟩) hW hp5 (fun _ _ H locs hW => ?_)
  refine W.cs (cells' := 20) (slots' := 132) rfl rfl ?_
  have hW : bW D g A s H _ [[(z1, .inr (11, [.ref (adX 10), .int (X.1 0 0), .ref (adN4 0), .int 0, .int 0, .null, .int 0]))], vW g adN N, gW L kd nu aa, vW g adN4 N3, xW g adX (adN 0) (adT 0) iX X] := hW
  obtain ⟨R6, eR6, hf⟩ := q_ls hf
  obtain ⟨adR7, hadR7, hW⟩ : ∃ adR7 : Nat → Nat, adR7 0 = z1 ∧ bW D g A s H _ [rW g adR7 (adX 10) (adN4 0) R6, vW g adN N, gW L kd nu aa, vW g adN4 N3, xW g adX (adN 0) (adT 0) iX X, dW g none] := ⟨fun _ => z1, rfl, by subst eR6; exact hW⟩
  rw [← hadR7]
  refine lv_astore_n (lv' := [(1, .ref (adR7 0)), (0, .ref (adX 0))]) hx hb dX0_valley_22 rfl hl (by decide) rfl (fun ls hl => ?_)
  refine lv_aload_n hx hb dX0_valley_23 rfl (lv_at hl 0 rfl) ?_
  have hp8 : List.Perm ([rW g adR7 (adX 10) (adN4 0) R6, vW g adN N, gW L kd nu aa, vW g adN4 N3, xW g adX (adN 0) (adT 0) iX X, dW g none] : List va_W) ([rW g adR7 (adX 10) (adN4 0) R6, xW g adX (adN 0) (adT 0) iX X, vW g adN4 N3, gW L kd nu aa, dW g none] ++ [vW g adN N]) := b_perm [0, 4, 3, 2, 5] [1] 6 rfl rfl rfl rfl
  refine b_callX (vx_runV (As := []) (rest := []) ⟨hx, hb, hml, hown, hts⟩ (m_X11_read l D g H.size adR7 adX iX adN4 adT adN fu R6 X N3 L kd nu aa none _ _ hf) (cwV 0 hts (lw_V q765 q766 q767 q100 q768) rfl rfl rfl (by decide +kernel) ⟨Nat.le_of_ble_eq_true rfl, Nat.le_of_ble_eq_true rfl⟩) (b_preV (pp := 0) (q := 0) hW hp8 rfl rW_0 rfl) rfl rfl hl.1 rfl (lv_room (Nat.le_of_ble_eq_true rfl)) dX0_valley_24 ⟨Nat.le_of_ble_eq_true rfl, Nat.le_of_ble_eq_true rfl⟩) hW hp8 (fun E q8 ce8 u8 hok H locs hW hcell hcv hcl => ?_) (fun u8 hf H locs hW => ?_)
  · try dsimp only at hok hW
    obtain ⟨z9, by16, R9, N10, L11, kd12, nu13, aa14, D15⟩ := u8
    obtain ⟨hE9, hq9, hf⟩ := hok; (try dsimp only at hq9 hf hW); subst hE9; subst hq9
    have hW : bW D g A s H locs [rW g adR7 (adX 10) (adN4 0) R9, xW g adX (adN 0) (adT 0) iX X, vW g adN4 N10, gW L11 kd12 nu13 aa14, dW g D15, [(q8, .inr (12, xRf by16))], vW g adN N] := hW
    refine vx_catch hown [] ⟨0, 38, 45, 227⟩ [⟨0, 38, 68, 0⟩, ⟨45, 61, 68, 0⟩, ⟨68, 70, 68, 0⟩] (htab.trans rfl) (fun z hz => nomatch hz) (by decide) (by decide) (hts _ q724) (b_castC hW.2.2.2.2.2 14 rfl) hcell hcv hcl ?_
    refine W.cs (cells' := 2095) (slots' := 69057) rfl rfl ?_
    refine lv_astore_n (lv' := [(1, .ref q8), (0, .ref (adX 0))]) hx hb dX0_valley_45 rfl hl (by decide) rfl (fun ls hl => ?_)
    refine lv_aload_n hx hb dX0_valley_46 rfl (lv_at hl 1 rfl) ?_
    refine lv_bipush (v := (-2)) hx hb dX0_valley_47 (by decide) ?_
    obtain ⟨r17, X18, hc18, hf⟩ := q_b2s hf
    have hp18 : List.Perm [rW g adR7 (adX 10) (adN4 0) R9, xW g adX (adN 0) (adT 0) iX X, vW g adN4 N10, gW L11 kd12 nu13 aa14, dW g D15, [(q8, .inr (12, xRf by16))], vW g adN N] ([xW g adX (adN 0) (adT 0) iX X] ++ [rW g adR7 (adX 10) (adN4 0) R9, vW g adN4 N10, gW L11 kd12 nu13 aa14, dW g D15, [(q8, .inr (12, xRf by16))], vW g adN N]) := b_perm [1] [0, 2, 3, 4, 5, 6] 7 rfl rfl rfl rfl
    refine b_call0 ⟨rfl, rfl⟩ (va_runV (As := [.int (-2)]) (rest := []) ⟨hx, hb, hml, hown, hts⟩ (m_X0_no l D g H.size adX iX adN adT X (-2) r17 X18 hc18) (cwV 1 hts (lw_V q347 q349 qs2 q76 q350) rfl rfl rfl (by decide +kernel) ⟨Nat.le_of_ble_eq_true rfl, Nat.le_of_ble_eq_true rfl⟩) (b_preV (pp := 1) (q := 0) hW hp18 rfl xW_0 rfl) rfl rfl hl.1 rfl (lv_room (Nat.le_of_ble_eq_true rfl)) dX0_valley_49 ⟨Nat.le_of_ble_eq_true rfl, Nat.le_of_ble_eq_true rfl⟩) hW hp18 (fun _ _ H locs hW => ?_)
    have hW : bW D g A s H locs [xW g adX (adN 0) (adT 0) iX X18, rW g adR7 (adX 10) (adN4 0) R9, vW g adN4 N10, gW L11 kd12 nu13 aa14, dW g D15, [(q8, .inr (12, xRf by16))], vW g adN N] := hW
    refine lv_pop hx hb dX0_valley_52 rfl ?_
    refine lv_bipush (v := (-20)) hx hb dX0_valley_53 (by decide) ?_
    refine lv_aload_n hx hb dX0_valley_55 rfl (lv_at hl 0 rfl) ?_
    refine b_get hx hb hts in_X12 hown hW 5 0 12 6 rfl rfl rfl (by decide) ⟨rfl, rfl, rfl⟩ (hts _ q986) rfl dX0_valley_56 ?_
    refine lv_isub hx hb dX0_valley_59 ?_
    obtain ⟨v19, ev19, hf⟩ := q_ls hf
    refine b_topi ev19 ?_
    refine lv_istore_n (lv' := [(2, .int v19), (1, .ref q8), (0, .ref (adX 0))]) hx hb dX0_valley_60 rfl hl (by decide) rfl (fun ls hl => ?_)
    refine lv_aload_n hx hb dX0_valley_61 rfl (lv_at hl 2 rfl) ?_
    refine lv_iconst (v := 0) hx hb dX0_valley_62 (by decide) ?_
    obtain ⟨X20, eX20, hf⟩ := q_ls hf
    refine b_put hx hb hts in_X0 tyX0 tyX0_ok nmX0 hown hW 0 0 0 5 rfl xW_0 (xW_p5 eX20) rfl rfl (by decide) ⟨rfl, rfl, rfl⟩ (hts _ q232) rfl (ty := .int) rfl rfl rfl (by rw [xW_l]; decide) dX0_valley_63 (fun H locs hW => ?_)
    have hW : bW D g A s H locs [xW g adX (adN 0) (adT 0) iX X20, rW g adR7 (adX 10) (adN4 0) R9, vW g adN4 N10, gW L11 kd12 nu13 aa14, dW g D15, [(q8, .inr (12, xRf by16))], vW g adN N] := hW
    refine lv_iload_n hx hb dX0_valley_66 rfl (lv_at hl 0 rfl) ?_
    refine b_toQ hE (fun Q hE => ?_)
    refine W.widen (k := 2095) (n := 69057) (by decide) (by decide) ?_
    exact b_iret hx hb hr hlk hE (b_sub (Bs' := [xW g adX (adN 0) (adT 0) iX X20, vW g adN N, gW L11 kd12 nu13 aa14]) (wr := [rW g adR7 (adX 10) (adN4 0) R9, vW g adN4 N10, dW g D15, [(q8, .inr (12, xRf by16))]]) hW (b_ord [0, 6, 3, 1, 2, 4, 5] 7 rfl rfl rfl)) (v19, X20, N, L11, kd12, nu13, aa14, adN) rfl hf rfl dX0_valley_67
  · try dsimp only at hf hW
    obtain ⟨r21, R22, N23, L24, kd25, nu26, aa27, D28⟩ := u8
    try dsimp only at hf hW ⊢
    refine W.cs (cells' := 2095) (slots' := 69057) rfl rfl ?_
    have hW : bW D g A s H locs [rW g adR7 (adX 10) (adN4 0) R22, xW g adX (adN 0) (adT 0) iX X, vW g adN4 N23, gW L24 kd25 nu26 aa27, dW g D28, vW g adN N] := hW
    refine lv_istore_n (lv' := [(2, .int r21), (1, .ref (adR7 0)), (0, .ref (adX 0))]) hx hb dX0_valley_27 rfl hl (by decide) rfl (fun ls hl => ?_)
    refine lv_aload_n hx hb dX0_valley_28 rfl (lv_at hl 2 rfl) ?_
    refine lv_aload_n hx hb dX0_valley_29 rfl (lv_at hl 1 rfl) ?_
    refine b_get hx hb hts in_X11 hown hW 0 0 11 2 rfl rW_0 rfl (by decide) ⟨rfl, rfl, rfl⟩ (hts _ q745) rW_g2 dX0_valley_30 ?_
    refine b_put hx hb hts in_X0 tyX0 tyX0_ok nmX0 hown hW 1 0 0 0 (v := .ref (adN4 0)) (w' := xW g adX (adN4 0) (adT 0) iX X) (Bs' := [rW g adR7 (adX 10) (adN4 0) R22, xW g adX (adN4 0) (adT 0) iX X, vW g adN4 N23, gW L24 kd25 nu26 aa27, dW g D28, vW g adN N]) rfl xW_0 rfl rfl rfl (by decide) ⟨rfl, rfl, rfl⟩ (hts _ q227) rfl (ty := .object "EverybodyHasTheBook$Valley") rfl rfl rfl (Nat.le_of_ble_eq_true rfl) dX0_valley_33 (fun H locs hW => ?_)
    have hW : bW D g A s H locs [rW g adR7 (adX 10) (adN4 0) R22, xW g adX (adN4 0) (adT 0) iX X, vW g adN4 N23, gW L24 kd25 nu26 aa27, dW g D28, vW g adN N] := hW
    refine lv_iload_n hx hb dX0_valley_36 rfl (lv_at hl 0 rfl) ?_
    refine lv_istore_n (lv' := [(3, .int r21), (2, .int r21), (1, .ref (adR7 0)), (0, .ref (adX 0))]) hx hb dX0_valley_37 rfl hl (by decide) rfl (fun ls hl => ?_)
    refine lv_aload_n hx hb dX0_valley_38 rfl (lv_at hl 3 rfl) ?_
    refine lv_iconst (v := 0) hx hb dX0_valley_39 (by decide) ?_
    obtain ⟨X29, eX29, hf⟩ := q_ls hf
    refine b_put hx hb hts in_X0 tyX0 tyX0_ok nmX0 hown hW 1 0 0 5 rfl xW_0 (xW_p5 eX29) rfl rfl (by decide) ⟨rfl, rfl, rfl⟩ (hts _ q232) rfl (ty := .int) rfl rfl rfl (by rw [xW_l]; decide) dX0_valley_40 (fun H locs hW => ?_)
    have hW : bW D g A s H locs [rW g adR7 (adX 10) (adN4 0) R22, xW g adX (adN4 0) (adT 0) iX X29, vW g adN4 N23, gW L24 kd25 nu26 aa27, dW g D28, vW g adN N] := hW
    refine lv_iload_n hx hb dX0_valley_43 rfl (lv_at hl 0 rfl) ?_
    refine b_toQ hE (fun Q hE => ?_)
    refine W.widen (k := 2095) (n := 69057) (by decide) (by decide) ?_
    exact b_iret hx hb hr hlk hE (b_sub (Bs' := [xW g adX (adN4 0) (adT 0) iX X29, vW g adN4 N23, gW L24 kd25 nu26 aa27]) (wr := [rW g adR7 (adX 10) (adN4 0) R22, dW g D28, vW g adN N]) hW (b_ord [1, 2, 3, 0, 4, 5] 6 rfl rfl rfl)) (r21, X29, N23, L24, kd25, nu26, aa27, adN4) rfl hf rfl dX0_valley_44
