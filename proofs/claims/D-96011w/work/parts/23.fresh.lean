/-! The second Model: fresh(), image(), and all that call fresh(): printed by gen/all.py -/
set_option maxRecDepth 100000
def o_k {α : Type} (n : Nat) (q : Option α) : Nat := match q with | none => n | some _ => 0
theorem b_nil {s : State} {H : Heap} {locs : List Loc} {D : va_G} {g : Nat → ClassId} {A : Nat → Prop} {Bs : List va_W} (hW : bW D g A s H locs (Bs ++ [[]])) : bW D g A s H locs Bs := by
  have h : (Bs ++ [[]]).flatten = Bs.flatten := by simp
  unfold bW at *
  rwa [h] at hW
def o_a (q : Option ((Nat → Nat) × BC)) : Option Nat := q.map fun q => q.1 0
theorem o_q2 {a b c : Nat} (h : a + b ≤ c) : a + 0 ≤ c := by omega
theorem o_q3 {a b c : Nat} (h : a + b ≤ c) : a ≤ c := by omega
theorem o_qs {α : Type} {tq : Option ((Nat → Nat) × BC)} {B : BC → Option α} {x : α} (h : o_op (tq.map Prod.snd) none B = some x) : ∃ ad T, tq = some (ad, T) := by
  cases tq with
  | none => cases h
  | some q => exact ⟨q.1, q.2, rfl⟩
/-- what a Model holds when it is new -/
def zM : BC := bI zBC 0 (upd (zBC.1 0) 5 1)

def f_X3_takeFrom_L18 (K : BC) (rec5 : (Int32 × BC) → Option BC) : Int32 × BC → Option BC
  | (v6, M7) =>
    (if (6 : Int32) ≤ v6 then
     o_lt (K.1 0 3) fun (v9 : Int32) =>
     o_lt (bI M7 0 (upd (M7.1 0) 3 v9)) fun (M10 : BC) =>
     o_lt (K.1 0 4) fun (v11 : Int32) =>
     o_lt (bI M10 0 (upd (M10.1 0) 4 v11)) fun (M12 : BC) =>
     o_lt (K.1 0 5) fun (v13 : Int32) =>
     o_lt (bI M12 0 (upd (M12.1 0) 5 v13)) fun (M14 : BC) =>
     some M14
     else
     o_ck (inB v6 6) (o_lt (bI M7 (18 + ix v6) (cpyF (K.1 (18 + ix v6)) (M7.1 (18 + ix v6)) 7)) fun (M16 : BC) =>
     o_lt (bI M16 (25 + ix v6) (cpyF (K.1 (25 + ix v6)) (M16.1 (25 + ix v6)) 3)) fun (M17 : BC) =>
     o_lt (v6 + 1) fun (v18 : Int32) =>
     rec5 (v18, M17)))
def f_X3_takeFrom (fu : Nat) (M : BC) (K : BC) : Option BC :=
 o_lt (K.1 0 1) fun (v1 : Int32) =>
 o_lt (bI M 0 (upd (M.1 0) 1 v1)) fun (M2 : BC) =>
 o_lt (K.1 0 2) fun (v3 : Int32) =>
 o_lt (bI M2 0 (upd (M2.1 0) 2 v3)) fun (M4 : BC) =>
 o_lp (f_X3_takeFrom_L18 K) fu (0, M4)
abbrev rm_X3_takeFrom : Room := { frames := 1, cells := 0, slots := 0, locals := 22 }
set_option maxHeartbeats 4000000 in
set_option maxRecDepth 100000 in
theorem m_X3_takeFrom (l : Launch) (D : va_G) (g : Nat → ClassId) (sz : Nat) (adM : Nat → Nat) (kM : Option Nat) (tM : Option Nat) (adK : Nat → Nat) (kK : Option Nat) (tK : Option Nat) (fu : Nat) (M : BC) (K : BC) (MO : BC) (hf : f_X3_takeFrom fu M K = some MO) : bMet (S := Unit) l yX3_takeFrom (ws_ yX3_takeFrom cX3_takeFrom 3 none) rm_X3_takeFrom D g sz [.ref (adM 0), .ref (adK 0)] [mW g adM kM tM M, mW g adK kK tK K] (fun _ => True) (fun _ => none) (fun _ => [mW g adM kM tM MO, mW g adK kK tK K]) := by
  refine b_met (by decide) (Nat.le_of_ble_eq_true rfl) ?_
  intro p e s m args below meth c A Q ls hx hb hml hr hlk hown hname hts hE hl hW
  revert hW; generalize s.heap = H; intro hW
  have hl : lv_has ls 3 [(0, .ref (adM 0)), (1, .ref (adK 0))] := hl
  rw [f_X3_takeFrom] at hf
  refine lv_aload_n hx hb dX3_takeFrom_0 rfl (lv_at hl 0 rfl) ?_
  refine lv_aload_n hx hb dX3_takeFrom_1 rfl (lv_at hl 1 rfl) ?_
  refine b_get hx hb hts in_X3 hown hW 1 0 3 9 rfl mW_0 rfl (by decide) ⟨rfl, rfl, rfl⟩ (hts _ q1468) mW_g9 dX3_takeFrom_2 ?_
  obtain ⟨v1, ev1, hf⟩ := o_ls hf
  refine b_topi ev1 ?_
  obtain ⟨M2, eM2, hf⟩ := o_ls hf
  refine b_put hx hb hts in_X3 tyX3 tyX3_ok nmX3 hown hW 0 0 3 9 rfl mW_0 (mW_p9 eM2) rfl rfl (by decide) ⟨rfl, rfl, rfl⟩ (hts _ q1468) rfl (ty := .int) rfl rfl rfl (by rw [mW_l]; decide) dX3_takeFrom_5 (fun H locs hW => ?_)
  have hW : bW D g A s H locs [mW g adM kM tM M2, mW g adK kK tK K] := hW
  refine lv_aload_n hx hb dX3_takeFrom_8 rfl (lv_at hl 0 rfl) ?_
  refine lv_aload_n hx hb dX3_takeFrom_9 rfl (lv_at hl 1 rfl) ?_
  refine b_get hx hb hts in_X3 hown hW 1 0 3 11 rfl mW_0 rfl (by decide) ⟨rfl, rfl, rfl⟩ (hts _ q1470) mW_g11 dX3_takeFrom_10 ?_
  obtain ⟨v3, ev3, hf⟩ := o_ls hf
  refine b_topi ev3 ?_
  obtain ⟨M4, eM4, hf⟩ := o_ls hf
  refine b_put hx hb hts in_X3 tyX3 tyX3_ok nmX3 hown hW 0 0 3 11 rfl mW_0 (mW_p11 eM4) rfl rfl (by decide) ⟨rfl, rfl, rfl⟩ (hts _ q1470) rfl (ty := .int) rfl rfl rfl (by rw [mW_l]; decide) dX3_takeFrom_13 (fun H locs hW => ?_)
  have hW : bW D g A s H locs [mW g adM kM tM M4, mW g adK kK tK K] := hW
  refine lv_iconst (v := 0) hx hb dX3_takeFrom_16 (by decide) ?_
  refine lv_istore_n (lv' := [(2, .int 0), (0, .ref (adM 0)), (1, .ref (adK 0))]) hx hb dX3_takeFrom_17 rfl hl (by decide) rfl (fun ls hl => ?_)
  obtain ⟨stp5, est5, hf⟩ := o_ln hf
  have L5 : ∀ (n : Nat) (v6 : Int32) (M7 : BC) (H : Heap) (locs : List Loc) (ls : Array Slot), bW D g A s H locs [mW g adM kM tM M7, mW g adK kK tK K] → lv_has ls 3 [(2, .int v6), (0, .ref (adM 0)), (1, .ref (adK 0))] → o_lp stp5 n (v6, M7) = some MO → W p l e rm_X3_takeFrom s m args below meth c H locs 0 0 Q (F0 m 18 ls []) := by
    intro n5
    induction n5 with
    | zero => intro v6 M7 H locs ls hW hl hf; exact (o_lz hf).elim
    | succ n5 ih5 =>
      intro v6 M7 H locs ls hW hl hf
      have hf := o_lu est5 hf
      rw [f_X3_takeFrom_L18] at hf
      refine lv_iload_n hx hb dX3_takeFrom_18 rfl (lv_at hl 0 rfl) ?_
      refine lv_bipush (v := 6) hx hb dX3_takeFrom_19 (by decide) ?_
      refine lv_icmp_ge (tgt := 60) hx hb dX3_takeFrom_21 (by decide) (fun c8 => ?_) (fun c8 => ?_)
      · have hf := o_t hf c8
        refine lv_aload_n hx hb dX3_takeFrom_60 rfl (lv_at hl 1 rfl) ?_
        refine lv_aload_n hx hb dX3_takeFrom_61 rfl (lv_at hl 2 rfl) ?_
        refine b_get hx hb hts in_X3 hown hW 1 0 3 13 rfl mW_0 rfl (by decide) ⟨rfl, rfl, rfl⟩ (hts _ q1472) mW_g13 dX3_takeFrom_62 ?_
        obtain ⟨v9, ev9, hf⟩ := o_ls hf
        refine b_topi ev9 ?_
        obtain ⟨M10, eM10, hf⟩ := o_ls hf
        refine b_put hx hb hts in_X3 tyX3 tyX3_ok nmX3 hown hW 0 0 3 13 rfl mW_0 (mW_p13 eM10) rfl rfl (by decide) ⟨rfl, rfl, rfl⟩ (hts _ q1472) rfl (ty := .int) rfl rfl rfl (by rw [mW_l]; decide) dX3_takeFrom_65 (fun H locs hW => ?_)
        have hW : bW D g A s H locs [mW g adM kM tM M10, mW g adK kK tK K] := hW
        refine lv_aload_n hx hb dX3_takeFrom_68 rfl (lv_at hl 1 rfl) ?_
        refine lv_aload_n hx hb dX3_takeFrom_69 rfl (lv_at hl 2 rfl) ?_
        refine b_get hx hb hts in_X3 hown hW 1 0 3 14 rfl mW_0 rfl (by decide) ⟨rfl, rfl, rfl⟩ (hts _ q1473) mW_g14 dX3_takeFrom_70 ?_
        obtain ⟨v11, ev11, hf⟩ := o_ls hf
        refine b_topi ev11 ?_
        obtain ⟨M12, eM12, hf⟩ := o_ls hf
        refine b_put hx hb hts in_X3 tyX3 tyX3_ok nmX3 hown hW 0 0 3 14 rfl mW_0 (mW_p14 eM12) rfl rfl (by decide) ⟨rfl, rfl, rfl⟩ (hts _ q1473) rfl (ty := .int) rfl rfl rfl (by rw [mW_l]; decide) dX3_takeFrom_73 (fun H locs hW => ?_)
        have hW : bW D g A s H locs [mW g adM kM tM M12, mW g adK kK tK K] := hW
        refine lv_aload_n hx hb dX3_takeFrom_76 rfl (lv_at hl 1 rfl) ?_
        refine lv_aload_n hx hb dX3_takeFrom_77 rfl (lv_at hl 2 rfl) ?_
        refine b_get hx hb hts in_X3 hown hW 1 0 3 15 rfl mW_0 rfl (by decide) ⟨rfl, rfl, rfl⟩ (hts _ q1474) mW_g15 dX3_takeFrom_78 ?_
        obtain ⟨v13, ev13, hf⟩ := o_ls hf
        refine b_topi ev13 ?_
        obtain ⟨M14, eM14, hf⟩ := o_ls hf
        refine b_put hx hb hts in_X3 tyX3 tyX3_ok nmX3 hown hW 0 0 3 15 rfl mW_0 (mW_p15 eM14) rfl rfl (by decide) ⟨rfl, rfl, rfl⟩ (hts _ q1474) rfl (ty := .int) rfl rfl rfl (by rw [mW_l]; decide) dX3_takeFrom_81 (fun H locs hW => ?_)
        have hW : bW D g A s H locs [mW g adM kM tM M14, mW g adK kK tK K] := hW
        cases hf
        exact b_vret hx hb hr hlk hE hW () rfl trivial rfl dX3_takeFrom_84
      · have hf := o_f hf c8
        refine lv_aload_n hx hb dX3_takeFrom_24 rfl (lv_at hl 2 rfl) ?_
        refine b_get hx hb hts in_X3 hown hW 1 0 3 10 rfl mW_0 rfl (by decide) ⟨rfl, rfl, rfl⟩ (hts _ q1469) mW_g10 dX3_takeFrom_25 ?_
        refine lv_iload_n hx hb dX3_takeFrom_28 rfl (lv_at hl 0 rfl) ?_
        obtain ⟨h15, hf⟩ := o_cs hf
        refine b_agrI hx hb hW 1 17 rfl mW_17 h15 dX3_takeFrom_29 ?_
        refine lv_aload_n hx hb dX3_takeFrom_30 rfl (lv_at hl 1 rfl) ?_
        refine b_get hx hb hts in_X3 hown hW 0 0 3 10 rfl mW_0 rfl (by decide) ⟨rfl, rfl, rfl⟩ (hts _ q1469) mW_g10 dX3_takeFrom_31 ?_
        refine lv_iload_n hx hb dX3_takeFrom_34 rfl (lv_at hl 0 rfl) ?_
        refine b_agrI hx hb hW 0 17 rfl mW_17 h15 dX3_takeFrom_35 ?_
        obtain ⟨M16, eM16, hf⟩ := o_ls hf
        have hp16 : List.Perm [mW g adM kM tM M7, mW g adK kK tK K] ([mW g adK kK tK K, mW g adM kM tM M7] ++ []) := b_perm [1, 0] [] 2 rfl rfl rfl rfl
        refine b_call0 ⟨rfl, rfl⟩ (va_runS (As := [.ref (adK (18 + ix v6)), .ref (adM (18 + ix v6))]) (rest := []) ⟨hx, hb, hml, hown, hts⟩ (m_X3_over l D g H.size _ _ _ (18 + ix v6) (18 + ix v6) _ _ 7 _ _ (by decide) (mW_r18 (inB_lt h15)) (mW_r18 (inB_lt h15)) (mW_rs18 (inB_lt h15) eM16)) (va_cwS 2 hts (lw_S q1711 q1712 q79 q1713) rfl rfl rfl (by decide +kernel) ⟨Nat.le_of_ble_eq_true rfl, Nat.le_of_ble_eq_true rfl⟩) (b_preS hW hp16) rfl rfl hl.1 rfl (lv_room (Nat.le_of_ble_eq_true rfl)) dX3_takeFrom_36 ⟨Nat.le_of_ble_eq_true rfl, Nat.le_of_ble_eq_true rfl⟩) hW hp16 (fun _ _ H locs hW => ?_)
        have hW : bW D g A s H locs [mW g adK kK tK K, mW g adM kM tM M16] := hW
        refine lv_aload_n hx hb dX3_takeFrom_39 rfl (lv_at hl 2 rfl) ?_
        refine b_get hx hb hts in_X3 hown hW 0 0 3 12 rfl mW_0 rfl (by decide) ⟨rfl, rfl, rfl⟩ (hts _ q1471) mW_g12 dX3_takeFrom_40 ?_
        refine lv_iload_n hx hb dX3_takeFrom_43 rfl (lv_at hl 0 rfl) ?_
        refine b_agrI hx hb hW 0 24 rfl mW_24 h15 dX3_takeFrom_44 ?_
        refine lv_aload_n hx hb dX3_takeFrom_45 rfl (lv_at hl 1 rfl) ?_
        refine b_get hx hb hts in_X3 hown hW 1 0 3 12 rfl mW_0 rfl (by decide) ⟨rfl, rfl, rfl⟩ (hts _ q1471) mW_g12 dX3_takeFrom_46 ?_
        refine lv_iload_n hx hb dX3_takeFrom_49 rfl (lv_at hl 0 rfl) ?_
        refine b_agrI hx hb hW 1 24 rfl mW_24 h15 dX3_takeFrom_50 ?_
        obtain ⟨M17, eM17, hf⟩ := o_ls hf
        have hp17 : List.Perm [mW g adK kK tK K, mW g adM kM tM M16] ([mW g adK kK tK K, mW g adM kM tM M16] ++ []) := b_perm [0, 1] [] 2 rfl rfl rfl rfl
        refine b_call0 ⟨rfl, rfl⟩ (va_runS (As := [.ref (adK (25 + ix v6)), .ref (adM (25 + ix v6))]) (rest := []) ⟨hx, hb, hml, hown, hts⟩ (m_X3_over l D g H.size _ _ _ (25 + ix v6) (25 + ix v6) _ _ 3 _ _ (by decide) (mW_r25 (inB_lt h15)) (mW_r25 (inB_lt h15)) (mW_rs25 (inB_lt h15) eM17)) (va_cwS 2 hts (lw_S q1711 q1712 q79 q1713) rfl rfl rfl (by decide +kernel) ⟨Nat.le_of_ble_eq_true rfl, Nat.le_of_ble_eq_true rfl⟩) (b_preS hW hp17) rfl rfl hl.1 rfl (lv_room (Nat.le_of_ble_eq_true rfl)) dX3_takeFrom_51 ⟨Nat.le_of_ble_eq_true rfl, Nat.le_of_ble_eq_true rfl⟩) hW hp17 (fun _ _ H locs hW => ?_)
        have hW : bW D g A s H locs [mW g adK kK tK K, mW g adM kM tM M17] := hW
        obtain ⟨v18, ev18, hf⟩ := o_ls hf
        refine lv_iinc (v := v18) (lv' := [(2, .int v18), (0, .ref (adM 0)), (1, .ref (adK 0))]) hx hb dX3_takeFrom_54 hl (k := 0) rfl ev18 (by decide) rfl (fun ls hl => ?_)
        refine lv_goto (tgt := 18) hx hb dX3_takeFrom_57 (by decide) ?_
        exact ih5 _ _ _ _ _ (b_perms hW (b_ord [1, 0] 2 rfl rfl rfl)) (lv_sub hl [0, 1, 2] rfl) hf
  exact L5 _ _ _ _ _ _ hW (lv_sub hl [0, 1, 2] rfl) hf
def f_X3_fresh (fu : Nat) (M : BC) (To : Option BC) : Option BC := f_X3_takeFrom fu (To.getD zM) M
abbrev rm_X3_fresh (tQ : Option ((Nat → Nat) × BC)) : Room := { frames := 2, cells := o_k 45 tQ, slots := o_k 842 tQ, locals := 44 }
set_option maxHeartbeats 4000000 in
set_option maxRecDepth 100000 in
theorem m_X3_fresh (l : Launch) (D : va_G) (g : Nat → ClassId) (sz : Nat) (adM : Nat → Nat) (kM : Option Nat) (tQ : Option ((Nat → Nat) × BC)) (fu : Nat) (M TO : BC) (hf : f_X3_fresh fu M (tQ.map Prod.snd) = some TO) : bMet (S := Nat → Nat) l yX3_fresh (ws_ yX3_fresh cX3_fresh 1 (some (.object "EverybodyHasTheBookModel"))) (rm_X3_fresh tQ) D g sz [.ref (adM 0)] [mW g adM kM (o_a tQ) M, oM g tQ] (fun _ => True) (fun ad => some (.ref (ad 0))) (fun ad => [mW g adM kM (some (ad 0)) M, mW g ad none none TO]) := by
  refine b_met (by decide) (Nat.le_of_ble_eq_true rfl) ?_
  intro p e s m args below meth c A Q ls hx hb hml hr hlk hown hname hts hE hl hW
  revert hW; generalize s.heap = H; intro hW
  have hl : lv_has ls 1 [(0, .ref (adM 0))] := hl
  rw [f_X3_fresh] at hf
  have TAIL : ∀ (ad : Nat → Nat) (T : BC) (H : Heap) (locs : List Loc), bW D g A s H locs [mW g adM kM (some (ad 0)) M, mW g ad none none T] → f_X3_takeFrom fu T M = some TO → W p l e (rm_X3_fresh tQ) s m args below meth c H locs (rm_X3_fresh tQ).cells (rm_X3_fresh tQ).slots Q (F0 m 18 ls []) := by
    intro ad T H locs hW hf
    refine lv_aload_n hx hb dX3_fresh_18 rfl (lv_at hl 0 rfl) ?_
    refine b_get hx hb hts in_X3 hown hW 0 0 3 17 rfl mW_0 rfl (by decide) ⟨rfl, rfl, rfl⟩ (hts _ q1476) (v := .ref (ad 0)) rfl dX3_fresh_19 ?_
    refine lv_aload_n hx hb dX3_fresh_22 rfl (lv_at hl 0 rfl) ?_
    have hp : List.Perm [mW g adM kM (some (ad 0)) M, mW g ad none none T] ([mW g ad none none T, mW g adM kM (some (ad 0)) M] ++ []) := b_perm [1, 0] [] 2 rfl rfl rfl rfl
    refine b_call0 ⟨rfl, rfl⟩ (va_runV (As := [.ref (adM 0)]) (rest := []) ⟨hx, hb, hml, hown, hts⟩ (m_X3_takeFrom l D g H.size ad none none adM kM (some (ad 0)) fu T M TO hf) (cwV 1 hts (lw_V q1707 q1709 qs46 q79 q1710) rfl rfl rfl (by decide +kernel) ⟨Nat.le_of_ble_eq_true rfl, Nat.le_of_ble_eq_true rfl⟩) (b_preV (pp := 1) (q := 0) hW hp rfl mW_0 rfl) rfl rfl hl.1 rfl (lv_room (Nat.le_of_ble_eq_true rfl)) dX3_fresh_23 ⟨Nat.le_refl _, Nat.le_refl _⟩) hW hp (fun _ _ H locs hW => ?_)
    have hW : bW D g A s H locs [mW g ad none none TO, mW g adM kM (some (ad 0)) M] := hW
    refine lv_aload_n hx hb dX3_fresh_26 rfl (lv_at hl 0 rfl) ?_
    refine b_get hx hb hts in_X3 hown hW 1 0 3 17 rfl mW_0 rfl (by decide) ⟨rfl, rfl, rfl⟩ (hts _ q1476) (v := .ref (ad 0)) rfl dX3_fresh_27 ?_
    exact b_aret hx hb hr (Or.inl ⟨_, rfl⟩) hlk hE (b_perms hW (b_ord [1, 0] 2 rfl rfl rfl)) ad rfl trivial (Or.inr ⟨_, rfl⟩) rfl dX3_fresh_30
  refine lv_aload_n hx hb dX3_fresh_0 rfl (lv_at hl 0 rfl) ?_
  cases tQ with
  | some q =>
    obtain ⟨ad, T⟩ := q
    have hW : bW D g A s H [] [mW g adM kM (some (ad 0)) M, mW g ad none none T] := hW
    refine b_get hx hb hts in_X3 hown hW 0 0 3 17 rfl mW_0 rfl (by decide) ⟨rfl, rfl, rfl⟩ (hts _ q1476) (v := .ref (ad 0)) rfl dX3_fresh_1 ?_
    refine lv_ifnonnull (tgt := 18) hx hb dX3_fresh_4 (by decide) ?_
    exact TAIL ad T H [] hW hf
  | none =>
    have hW : bW D g A s H [] [mW g adM kM none M, []] := hW
    refine b_get hx hb hts in_X3 hown hW 0 0 3 17 rfl mW_0 rfl (by decide) ⟨rfl, rfl, rfl⟩ (hts _ q1476) (v := .null) rfl dX3_fresh_1 ?_
    refine lv_ifnonnullN hx hb dX3_fresh_4 ?_
    refine lv_aload_n hx hb dX3_fresh_7 rfl (lv_at hl 0 rfl) ?_
    refine b_new (ci := 3) (fs := [.null, .null, .null, .null, .null, .null, .null, .int 0, .null, .int 0, .null, .int 0, .null, .int 0, .int 0, .int 0, .null, .null, .int 0, .int 0, .int 0, .int 0, .int 0, .null, .int 0, .null, .null, .null, .null, .int 0, .null, .null, .int 0, .null]) hx hb hts in_X3 tyX3 tyX3_ok hown (hts _ q1705) (hts _ q1451) (hts _ q79) hW rfl (by intro j hj; rcases (show j = 0 ∨ j = 1 ∨ j = 2 ∨ j = 3 ∨ j = 4 ∨ j = 5 ∨ j = 6 ∨ j = 7 ∨ j = 8 ∨ j = 9 ∨ j = 10 ∨ j = 11 ∨ j = 12 ∨ j = 13 ∨ j = 14 ∨ j = 15 ∨ j = 16 ∨ j = 17 ∨ j = 18 ∨ j = 19 ∨ j = 20 ∨ j = 21 ∨ j = 22 ∨ j = 23 ∨ j = 24 ∨ j = 25 ∨ j = 26 ∨ j = 27 ∨ j = 28 ∨ j = 29 ∨ j = 30 ∨ j = 31 ∨ j = 32 ∨ j = 33 by omega) with rfl | rfl | rfl | rfl | rfl | rfl | rfl | rfl | rfl | rfl | rfl | rfl | rfl | rfl | rfl | rfl | rfl | rfl | rfl | rfl | rfl | rfl | rfl | rfl | rfl | rfl | rfl | rfl | rfl | rfl | rfl | rfl | rfl | rfl <;> rfl) (Nat.le_of_ble_eq_true rfl) (Nat.le_of_ble_eq_true rfl) dX3_fresh_8 (fun z H hW => ?_)
    have hW : bW D g A s H [] [mW g adM kM none M, [], [(z, .inr (3, [.null, .null, .null, .null, .null, .null, .null, .int 0, .null, .int 0, .null, .int 0, .null, .int 0, .int 0, .int 0, .null, .null, .int 0, .int 0, .int 0, .int 0, .int 0, .null, .int 0, .null, .null, .null, .null, .int 0, .null, .null, .int 0, .null]))]] := hW
    refine lv_dup hx hb dX3_fresh_11 rfl ?_
    have hp : List.Perm ([mW g adM kM none M, [], [(z, .inr (3, [.null, .null, .null, .null, .null, .null, .null, .int 0, .null, .int 0, .null, .int 0, .null, .int 0, .int 0, .int 0, .null, .null, .int 0, .int 0, .int 0, .int 0, .int 0, .null, .int 0, .null, .null, .null, .null, .int 0, .null, .null, .int 0, .null]))]] : List va_W) ([[(z, .inr (3, [.null, .null, .null, .null, .null, .null, .null, .int 0, .null, .int 0, .null, .int 0, .null, .int 0, .int 0, .int 0, .null, .null, .int 0, .int 0, .int 0, .int 0, .int 0, .null, .int 0, .null, .null, .null, .null, .int 0, .null, .null, .int 0, .null]))]] ++ [mW g adM kM none M, []]) := b_perm [2] [0, 1] 3 rfl rfl rfl rfl
    refine b_call (va_runI (As := []) (rest := [.ref z, .ref (adM 0)]) ⟨hx, hb, hml, hown, hts⟩ (m_X3_init l D g H.size z) (cwI 0 hts (lw_meth q1454) rfl rfl rfl (hts _ q79) (hts _ q1706) (hts _ q1453) rfl (by decide +kernel) ⟨Nat.le_of_ble_eq_true rfl, Nat.le_of_ble_eq_true rfl⟩) (b_preS hW hp) rfl rfl hl.1 rfl (lv_room (Nat.le_of_ble_eq_true rfl)) dX3_fresh_12 ⟨Nat.le_of_ble_eq_true rfl, Nat.le_of_ble_eq_true rfl⟩) hW hp (fun ad had H locs hW => ?_)
    have hW : bW D g A s H locs [mW g ad none none zM, mW g adM kM none M, []] := hW
    have had : ad 0 = z := had
    refine b_put hx hb hts in_X3 tyX3 tyX3_ok nmX3 hown hW 1 0 3 17 (v := .ref z) (w' := mW g adM kM (some z) M) (Bs' := [mW g ad none none zM, mW g adM kM (some z) M, []]) rfl mW_0 rfl rfl rfl (by decide) ⟨rfl, rfl, rfl⟩ (hts _ q1476) rfl (ty := .object "EverybodyHasTheBookModel") rfl rfl rfl (Nat.le_of_ble_eq_true rfl) dX3_fresh_15 (fun H locs hW => ?_)
    rw [← had] at hW
    refine W.cs (cells' := (rm_X3_fresh none).cells) (slots' := (rm_X3_fresh none).slots) rfl rfl ?_
    have hW := b_perms (b_nil (Bs := [mW g ad none none zM, mW g adM kM (some (ad 0)) M]) hW) (Bs' := [mW g adM kM (some (ad 0)) M, mW g ad none none zM]) (b_ord [1, 0] 2 rfl rfl rfl)
    exact TAIL ad zM H _ hW hf
def f_X3_image (fu : Nat) (M : BC) (To : Option BC) : Option BC := f_X3_takeFrom fu (To.getD zM) M
abbrev rm_X3_image (tQ : Option ((Nat → Nat) × BC)) : Room := { frames := 2, cells := o_k 45 tQ, slots := o_k 842 tQ, locals := 44 }
set_option maxHeartbeats 4000000 in
set_option maxRecDepth 100000 in
theorem m_X3_image (l : Launch) (D : va_G) (g : Nat → ClassId) (sz : Nat) (adM : Nat → Nat) (tM : Option Nat) (tQ : Option ((Nat → Nat) × BC)) (fu : Nat) (M TO : BC) (hf : f_X3_image fu M (tQ.map Prod.snd) = some TO) : bMet (S := Nat → Nat) l yX3_image (ws_ yX3_image cX3_image 1 (some .int)) (rm_X3_image tQ) D g sz [.ref (adM 0)] [mW g adM (o_a tQ) tM M, oM g tQ] (fun _ => True) (fun ad => some (.int 1)) (fun ad => [mW g adM (some (ad 0)) tM M, mW g ad none none TO]) := by
  refine b_met (by decide) (Nat.le_of_ble_eq_true rfl) ?_
  intro p e s m args below meth c A Q ls hx hb hml hr hlk hown hname hts hE hl hW
  revert hW; generalize s.heap = H; intro hW
  have hl : lv_has ls 1 [(0, .ref (adM 0))] := hl
  rw [f_X3_image] at hf
  have TAIL : ∀ (ad : Nat → Nat) (T : BC) (H : Heap) (locs : List Loc), bW D g A s H locs [mW g adM (some (ad 0)) tM M, mW g ad none none T] → f_X3_takeFrom fu T M = some TO → W p l e (rm_X3_image tQ) s m args below meth c H locs (rm_X3_image tQ).cells (rm_X3_image tQ).slots Q (F0 m 18 ls []) := by
    intro ad T H locs hW hf
    refine lv_aload_n hx hb dX3_image_18 rfl (lv_at hl 0 rfl) ?_
    refine b_get hx hb hts in_X3 hown hW 0 0 3 16 rfl mW_0 rfl (by decide) ⟨rfl, rfl, rfl⟩ (hts _ q1475) (v := .ref (ad 0)) rfl dX3_image_19 ?_
    refine lv_aload_n hx hb dX3_image_22 rfl (lv_at hl 0 rfl) ?_
    have hp : List.Perm [mW g adM (some (ad 0)) tM M, mW g ad none none T] ([mW g ad none none T, mW g adM (some (ad 0)) tM M] ++ []) := b_perm [1, 0] [] 2 rfl rfl rfl rfl
    refine b_call0 ⟨rfl, rfl⟩ (va_runV (As := [.ref (adM 0)]) (rest := []) ⟨hx, hb, hml, hown, hts⟩ (m_X3_takeFrom l D g H.size ad none none adM (some (ad 0)) tM fu T M TO hf) (cwV 1 hts (lw_V q1707 q1709 qs46 q79 q1710) rfl rfl rfl (by decide +kernel) ⟨Nat.le_of_ble_eq_true rfl, Nat.le_of_ble_eq_true rfl⟩) (b_preV (pp := 1) (q := 0) hW hp rfl mW_0 rfl) rfl rfl hl.1 rfl (lv_room (Nat.le_of_ble_eq_true rfl)) dX3_image_23 ⟨Nat.le_refl _, Nat.le_refl _⟩) hW hp (fun _ _ H locs hW => ?_)
    have hW : bW D g A s H locs [mW g ad none none TO, mW g adM (some (ad 0)) tM M] := hW
    refine lv_iconst (v := 1) hx hb dX3_image_26 (by decide) ?_
    exact b_iret hx hb hr hlk hE (b_perms hW (b_ord [1, 0] 2 rfl rfl rfl)) ad rfl trivial rfl dX3_image_27
  refine lv_aload_n hx hb dX3_image_0 rfl (lv_at hl 0 rfl) ?_
  cases tQ with
  | some q =>
    obtain ⟨ad, T⟩ := q
    have hW : bW D g A s H [] [mW g adM (some (ad 0)) tM M, mW g ad none none T] := hW
    refine b_get hx hb hts in_X3 hown hW 0 0 3 16 rfl mW_0 rfl (by decide) ⟨rfl, rfl, rfl⟩ (hts _ q1475) (v := .ref (ad 0)) rfl dX3_image_1 ?_
    refine lv_ifnonnull (tgt := 18) hx hb dX3_image_4 (by decide) ?_
    exact TAIL ad T H [] hW hf
  | none =>
    have hW : bW D g A s H [] [mW g adM none tM M, []] := hW
    refine b_get hx hb hts in_X3 hown hW 0 0 3 16 rfl mW_0 rfl (by decide) ⟨rfl, rfl, rfl⟩ (hts _ q1475) (v := .null) rfl dX3_image_1 ?_
    refine lv_ifnonnullN hx hb dX3_image_4 ?_
    refine lv_aload_n hx hb dX3_image_7 rfl (lv_at hl 0 rfl) ?_
    refine b_new (ci := 3) (fs := [.null, .null, .null, .null, .null, .null, .null, .int 0, .null, .int 0, .null, .int 0, .null, .int 0, .int 0, .int 0, .null, .null, .int 0, .int 0, .int 0, .int 0, .int 0, .null, .int 0, .null, .null, .null, .null, .int 0, .null, .null, .int 0, .null]) hx hb hts in_X3 tyX3 tyX3_ok hown (hts _ q1705) (hts _ q1451) (hts _ q79) hW rfl (by intro j hj; rcases (show j = 0 ∨ j = 1 ∨ j = 2 ∨ j = 3 ∨ j = 4 ∨ j = 5 ∨ j = 6 ∨ j = 7 ∨ j = 8 ∨ j = 9 ∨ j = 10 ∨ j = 11 ∨ j = 12 ∨ j = 13 ∨ j = 14 ∨ j = 15 ∨ j = 16 ∨ j = 17 ∨ j = 18 ∨ j = 19 ∨ j = 20 ∨ j = 21 ∨ j = 22 ∨ j = 23 ∨ j = 24 ∨ j = 25 ∨ j = 26 ∨ j = 27 ∨ j = 28 ∨ j = 29 ∨ j = 30 ∨ j = 31 ∨ j = 32 ∨ j = 33 by omega) with rfl | rfl | rfl | rfl | rfl | rfl | rfl | rfl | rfl | rfl | rfl | rfl | rfl | rfl | rfl | rfl | rfl | rfl | rfl | rfl | rfl | rfl | rfl | rfl | rfl | rfl | rfl | rfl | rfl | rfl | rfl | rfl | rfl | rfl <;> rfl) (Nat.le_of_ble_eq_true rfl) (Nat.le_of_ble_eq_true rfl) dX3_image_8 (fun z H hW => ?_)
    have hW : bW D g A s H [] [mW g adM none tM M, [], [(z, .inr (3, [.null, .null, .null, .null, .null, .null, .null, .int 0, .null, .int 0, .null, .int 0, .null, .int 0, .int 0, .int 0, .null, .null, .int 0, .int 0, .int 0, .int 0, .int 0, .null, .int 0, .null, .null, .null, .null, .int 0, .null, .null, .int 0, .null]))]] := hW
    refine lv_dup hx hb dX3_image_11 rfl ?_
    have hp : List.Perm ([mW g adM none tM M, [], [(z, .inr (3, [.null, .null, .null, .null, .null, .null, .null, .int 0, .null, .int 0, .null, .int 0, .null, .int 0, .int 0, .int 0, .null, .null, .int 0, .int 0, .int 0, .int 0, .int 0, .null, .int 0, .null, .null, .null, .null, .int 0, .null, .null, .int 0, .null]))]] : List va_W) ([[(z, .inr (3, [.null, .null, .null, .null, .null, .null, .null, .int 0, .null, .int 0, .null, .int 0, .null, .int 0, .int 0, .int 0, .null, .null, .int 0, .int 0, .int 0, .int 0, .int 0, .null, .int 0, .null, .null, .null, .null, .int 0, .null, .null, .int 0, .null]))]] ++ [mW g adM none tM M, []]) := b_perm [2] [0, 1] 3 rfl rfl rfl rfl
    refine b_call (va_runI (As := []) (rest := [.ref z, .ref (adM 0)]) ⟨hx, hb, hml, hown, hts⟩ (m_X3_init l D g H.size z) (cwI 0 hts (lw_meth q1454) rfl rfl rfl (hts _ q79) (hts _ q1706) (hts _ q1453) rfl (by decide +kernel) ⟨Nat.le_of_ble_eq_true rfl, Nat.le_of_ble_eq_true rfl⟩) (b_preS hW hp) rfl rfl hl.1 rfl (lv_room (Nat.le_of_ble_eq_true rfl)) dX3_image_12 ⟨Nat.le_of_ble_eq_true rfl, Nat.le_of_ble_eq_true rfl⟩) hW hp (fun ad had H locs hW => ?_)
    have hW : bW D g A s H locs [mW g ad none none zM, mW g adM none tM M, []] := hW
    have had : ad 0 = z := had
    refine b_put hx hb hts in_X3 tyX3 tyX3_ok nmX3 hown hW 1 0 3 16 (v := .ref z) (w' := mW g adM (some z) tM M) (Bs' := [mW g ad none none zM, mW g adM (some z) tM M, []]) rfl mW_0 rfl rfl rfl (by decide) ⟨rfl, rfl, rfl⟩ (hts _ q1475) rfl (ty := .object "EverybodyHasTheBookModel") rfl rfl rfl (Nat.le_of_ble_eq_true rfl) dX3_image_15 (fun H locs hW => ?_)
    rw [← had] at hW
    refine W.cs (cells' := (rm_X3_image none).cells) (slots' := (rm_X3_image none).slots) rfl rfl ?_
    have hW := b_perms (b_nil (Bs := [mW g ad none none zM, mW g adM (some (ad 0)) tM M]) hW) (Bs' := [mW g adM (some (ad 0)) tM M, mW g ad none none zM]) (b_ord [1, 0] 2 rfl rfl rfl)
    exact TAIL ad zM H _ hW hf
def f_X3_two_L52 (M : BC) (x1 : Int32) (x2 : Int32) (fu : Nat) (v13 : Int32) (rec12 : (Int32 × BC) → Option (Int32 × BC × Option BC)) (rec17 : (Int32 × BC) → Option (Int32 × BC × Option BC)) : Int32 × BC → Option (Int32 × BC × Option BC)
  | (v18, Q19) =>
    (if (M.1 0 2) ≤ v18 then
     o_lt (v13 + 1) fun (v21 : Int32) =>
     rec12 (v21, Q19)
     else
     o_ck (inB v18 6) ((if (M.1 (25 + ix v18) (ix 0)) = 5 then
     (if v13 = 1 then
     o_b1 (f_X3_isByBook M v18) fun (r41 : Int32) =>
     (if r41 = 0 then
     o_b1 (f_X3_readBook fu Q19 x1) fun (Q43 : BC) =>
     o_b1 (f_X3_comes fu Q43 v18 ((M.1 (25 + ix v18) (ix 1)) - 0)) fun (Q44 : BC) =>
     o_b1 (f_X3_readBook fu Q44 x2) fun (Q45 : BC) =>
     o_b1 (f_X3_comes fu Q45 v18 0) fun (Q46 : BC) =>
     o_lt (v18 + 1) fun (v47 : Int32) =>
     rec17 (v47, Q46)
     else
     o_lt ((M.1 (25 + ix v18) (ix 1)) / 2) fun (v48 : Int32) =>
     o_b1 (f_X3_readBook fu Q19 x1) fun (Q49 : BC) =>
     o_b1 (f_X3_comes fu Q49 v18 ((M.1 (25 + ix v18) (ix 1)) - v48)) fun (Q50 : BC) =>
     o_b1 (f_X3_readBook fu Q50 x2) fun (Q51 : BC) =>
     o_b1 (f_X3_comes fu Q51 v18 v48) fun (Q52 : BC) =>
     o_lt (v18 + 1) fun (v53 : Int32) =>
     rec17 (v53, Q52))
     else
     o_lt (v18 + 1) fun (v40 : Int32) =>
     rec17 (v40, Q19))
     else
     (if v13 = 1 then
     o_lt (v18 + 1) fun (v38 : Int32) =>
     rec17 (v38, Q19)
     else
     o_b1 (f_X3_isByBook M v18) fun (r25 : Int32) =>
     (if r25 = 0 then
     o_b1 (f_X3_readBook fu Q19 x1) fun (Q27 : BC) =>
     o_b1 (f_X3_comes fu Q27 v18 ((M.1 (25 + ix v18) (ix 1)) - 0)) fun (Q28 : BC) =>
     o_b1 (f_X3_readBook fu Q28 x2) fun (Q29 : BC) =>
     o_b1 (f_X3_comes fu Q29 v18 0) fun (Q30 : BC) =>
     o_lt (v18 + 1) fun (v31 : Int32) =>
     rec17 (v31, Q30)
     else
     o_lt ((M.1 (25 + ix v18) (ix 1)) / 2) fun (v32 : Int32) =>
     o_b1 (f_X3_readBook fu Q19 x1) fun (Q33 : BC) =>
     o_b1 (f_X3_comes fu Q33 v18 ((M.1 (25 + ix v18) (ix 1)) - v32)) fun (Q34 : BC) =>
     o_b1 (f_X3_readBook fu Q34 x2) fun (Q35 : BC) =>
     o_b1 (f_X3_comes fu Q35 v18 v32) fun (Q36 : BC) =>
     o_lt (v18 + 1) fun (v37 : Int32) =>
     rec17 (v37, Q36))))))
def f_X3_two_L43 (M : BC) (x1 : Int32) (x2 : Int32) (fu : Nat) (rec12 : (Int32 × BC) → Option (Int32 × BC × Option BC)) : Int32 × BC → Option (Int32 × BC × Option BC)
  | (v13, Q14) =>
    (if (2 : Int32) ≤ v13 then
     o_b1 (f_X3_joyBy fu Q14 (-1)) fun (r16 : Int32) =>
     some (r16, M, (some Q14))
     else
     o_lp (f_X3_two_L52 M x1 x2 fu v13 rec12) fu (0, Q14))
def f_X3_two (fu : Nat) (M : BC) (To : Option BC) (x1 : Int32) (x2 : Int32) : Option (Int32 × BC × Option BC) :=
 o_b1 (f_X3_isSet M x1) fun (r1 : Int32) =>
 (if r1 = 0 then
 o_b2 (f_X3_refuse M (-2)) fun (r3 : Int32) (M4 : BC) =>
 some ((-1000000) + r3, M4, To)
 else
 o_b1 (f_X3_isSet M x2) fun (r5 : Int32) =>
 (if r5 = 0 then
 o_b2 (f_X3_refuse M (-2)) fun (r54 : Int32) (M55 : BC) =>
 some ((-1000000) + r54, M55, To)
 else
 o_b1 (f_X3_fresh fu M To) fun (T7 : BC) =>
 o_lt (bI T7 0 (upd (T7.1 0) 3 0)) fun (Q10 : BC) =>
 o_b1 (f_X3_startNight fu Q10) fun (Q11 : BC) =>
 o_lp (f_X3_two_L43 M x1 x2 fu) fu (0, Q11)))
abbrev rm_X3_two (tQ : Option ((Nat → Nat) × BC)) : Room := { frames := 3, cells := o_k 45 tQ, slots := o_k 842 tQ, locals := 73 }
set_option maxHeartbeats 4000000 in
set_option maxRecDepth 100000 in
theorem m_X3_two (l : Launch) (D : va_G) (g : Nat → ClassId) (sz : Nat) (adM : Nat → Nat) (kM : Option Nat) (tQ : Option ((Nat → Nat) × BC)) (fu : Nat) (M : BC) (x1 : Int32) (x2 : Int32) (rO : Int32) (MO : BC) (TO : Option BC) (hf : f_X3_two fu M (tQ.map Prod.snd) x1 x2 = some (rO, MO, TO)) : bMet (S := Option ((Nat → Nat) × BC)) l yX3_two (ws_ yX3_two cX3_two 7 (some .int)) (rm_X3_two tQ) D g sz [.ref (adM 0), .int x1, .int x2] [mW g adM kM (o_a tQ) M, oM g tQ] (fun tQ1 => tQ1.map Prod.snd = TO) (fun _ => some (.int rO)) (fun tQ1 => [mW g adM kM (o_a tQ1) MO, oM g tQ1]) := by
  refine b_met (by decide) (Nat.le_of_ble_eq_true rfl) ?_
  intro p e s m args below meth c A Q ls hx hb hml hr hlk hown hname hts hE hl hW
  revert hW; generalize s.heap = H; intro hW
  have hl : lv_has ls 7 [(0, .ref (adM 0)), (1, .int x1), (2, .int x2)] := hl
  rw [f_X3_two] at hf
  have hq0 : 0 + o_k 45 tQ ≤ o_k 45 tQ ∧ 0 + o_k 842 tQ ≤ o_k 842 tQ := ⟨Nat.le_of_eq (Nat.zero_add _), Nat.le_of_eq (Nat.zero_add _)⟩
  refine lv_aload_n hx hb dX3_two_0 rfl (lv_at hl 0 rfl) ?_
  refine lv_iload_n hx hb dX3_two_1 rfl (lv_at hl 1 rfl) ?_
  obtain ⟨r1, hc1, hf⟩ := o_b1s hf
  have hp1 : List.Perm [mW g adM kM (o_a tQ) M, oM g tQ] ([mW g adM kM (o_a tQ) M] ++ [oM g tQ]) := b_perm [0] [1] 2 rfl rfl rfl rfl
  refine b_call0 ⟨rfl, rfl⟩ (va_runV (As := [.int x1]) (rest := []) ⟨hx, hb, hml, hown, hts⟩ (m_X3_isSet l D g H.size adM kM (o_a tQ) M x1 r1 hc1) (cwV 1 hts (lw_V q1664 q1666 qs42 q79 q1667) rfl rfl rfl (by decide +kernel) ⟨Nat.le_of_ble_eq_true rfl, Nat.le_of_ble_eq_true rfl⟩) (b_preV (pp := 0) (q := 0) hW hp1 rfl mW_0 rfl) rfl rfl hl.1 rfl (lv_room (Nat.le_of_ble_eq_true rfl)) dX3_two_2 ⟨o_q2 hq0.1, o_q2 hq0.2⟩) hW hp1 (fun _ _ H locs hW => ?_)
  have hW : bW D g A s H locs [mW g adM kM (o_a tQ) M, oM g tQ] := hW
  refine lv_if_eq (tgt := 16) hx hb dX3_two_5 (by decide) (fun c2 => ?_) (fun c2 => ?_)
  · have hf := o_t hf c2
    refine lv_ldc (v := (-1000000)) hx hb hown (hts _ q1801) dX3_two_16 ?_
    refine lv_aload_n hx hb dX3_two_18 rfl (lv_at hl 0 rfl) ?_
    refine lv_bipush (v := (-2)) hx hb dX3_two_19 (by decide) ?_
    obtain ⟨r3, M4, hc4, hf⟩ := o_b2s hf
    have hp4 : List.Perm [mW g adM kM (o_a tQ) M, oM g tQ] ([mW g adM kM (o_a tQ) M] ++ [oM g tQ]) := b_perm [0] [1] 2 rfl rfl rfl rfl
    refine b_call0 ⟨rfl, rfl⟩ (va_runV (As := [.int (-2)]) (rest := [.int (-1000000)]) ⟨hx, hb, hml, hown, hts⟩ (m_X3_refuse l D g H.size adM kM (o_a tQ) M (-2) r3 M4 hc4) (cwV 1 hts (lw_V q1572 q1574 qs33 q79 q1575) rfl rfl rfl (by decide +kernel) ⟨Nat.le_of_ble_eq_true rfl, Nat.le_of_ble_eq_true rfl⟩) (b_preV (pp := 0) (q := 0) hW hp4 rfl mW_0 rfl) rfl rfl hl.1 rfl (lv_room (Nat.le_of_ble_eq_true rfl)) dX3_two_21 ⟨o_q2 hq0.1, o_q2 hq0.2⟩) hW hp4 (fun _ _ H locs hW => ?_)
    have hW : bW D g A s H locs [mW g adM kM (o_a tQ) M4, oM g tQ] := hW
    refine lv_iadd hx hb dX3_two_24 ?_
    refine W.widen (k := o_k 45 tQ) (n := o_k 842 tQ) (o_q3 hq0.1) (o_q3 hq0.2) ?_
    cases hf
    exact b_iret hx hb hr hlk hE hW tQ rfl rfl rfl dX3_two_25
  · have hf := o_f hf c2
    refine lv_aload_n hx hb dX3_two_8 rfl (lv_at hl 0 rfl) ?_
    refine lv_iload_n hx hb dX3_two_9 rfl (lv_at hl 2 rfl) ?_
    obtain ⟨r5, hc5, hf⟩ := o_b1s hf
    have hp5 : List.Perm [mW g adM kM (o_a tQ) M, oM g tQ] ([mW g adM kM (o_a tQ) M] ++ [oM g tQ]) := b_perm [0] [1] 2 rfl rfl rfl rfl
    refine b_call0 ⟨rfl, rfl⟩ (va_runV (As := [.int x2]) (rest := []) ⟨hx, hb, hml, hown, hts⟩ (m_X3_isSet l D g H.size adM kM (o_a tQ) M x2 r5 hc5) (cwV 1 hts (lw_V q1664 q1666 qs42 q79 q1667) rfl rfl rfl (by decide +kernel) ⟨Nat.le_of_ble_eq_true rfl, Nat.le_of_ble_eq_true rfl⟩) (b_preV (pp := 0) (q := 0) hW hp5 rfl mW_0 rfl) rfl rfl hl.1 rfl (lv_room (Nat.le_of_ble_eq_true rfl)) dX3_two_10 ⟨o_q2 hq0.1, o_q2 hq0.2⟩) hW hp5 (fun _ _ H locs hW => ?_)
    have hW : bW D g A s H locs [mW g adM kM (o_a tQ) M, oM g tQ] := hW
    refine lv_if_ne (tgt := 26) hx hb dX3_two_13 (by decide) (fun c6 => ?_) (fun c6 => ?_)
    · have hf := o_f hf c6
      refine lv_aload_n hx hb dX3_two_26 rfl (lv_at hl 0 rfl) ?_
      obtain ⟨T7, hc8, hf⟩ := o_b1s hf
      have hp8 : List.Perm [mW g adM kM (o_a tQ) M, oM g tQ] ([mW g adM kM (o_a tQ) M, oM g tQ] ++ []) := b_perm [0, 1] [] 2 rfl rfl rfl rfl
      refine b_call (va_runV (As := []) (rest := []) ⟨hx, hb, hml, hown, hts⟩ (m_X3_fresh l D g H.size adM kM tQ fu M T7 hc8) (cwV 0 hts (lw_V q1701 q1703 qs45 q79 q1704) rfl rfl rfl (by decide +kernel) ⟨Nat.le_of_ble_eq_true rfl, Nat.le_of_ble_eq_true rfl⟩) (b_preV (pp := 0) (q := 0) hW hp8 rfl mW_0 rfl) rfl rfl hl.1 rfl (lv_room (Nat.le_of_ble_eq_true rfl)) dX3_two_27 ⟨hq0.1, hq0.2⟩) hW hp8 (fun ad8 _ H locs hW => ?_)
      refine W.cs (cells' := (0 + o_k 45 tQ)) (slots' := (0 + o_k 842 tQ)) rfl rfl ?_
      have hq9 : (0 + o_k 45 tQ) + o_k 45 (some (ad8, T7)) ≤ o_k 45 tQ ∧ (0 + o_k 842 tQ) + o_k 842 (some (ad8, T7)) ≤ o_k 842 tQ := hq0
      have hW : bW D g A s H locs [mW g adM kM (some (ad8 0)) M, mW g ad8 none none T7] := hW
      refine lv_astore_n (lv' := [(3, .ref (ad8 0)), (0, .ref (adM 0)), (1, .int x1), (2, .int x2)]) hx hb dX3_two_30 rfl hl (by decide) rfl (fun ls hl => ?_)
      refine lv_aload_n hx hb dX3_two_31 rfl (lv_at hl 0 rfl) ?_
      refine lv_iconst (v := 0) hx hb dX3_two_32 (by decide) ?_
      obtain ⟨Q10, eQ10, hf⟩ := o_ls hf
      refine b_put hx hb hts in_X3 tyX3 tyX3_ok nmX3 hown hW 1 0 3 13 rfl mW_0 (mW_p13 eQ10) rfl rfl (by decide) ⟨rfl, rfl, rfl⟩ (hts _ q1472) rfl (ty := .int) rfl rfl rfl (by rw [mW_l]; decide) dX3_two_33 (fun H locs hW => ?_)
      have hW : bW D g A s H locs [mW g adM kM (some (ad8 0)) M, mW g ad8 none none Q10] := hW
      refine lv_aload_n hx hb dX3_two_36 rfl (lv_at hl 0 rfl) ?_
      obtain ⟨Q11, hc11, hf⟩ := o_b1s hf
      have hp11 : List.Perm [mW g adM kM (some (ad8 0)) M, mW g ad8 none none Q10] ([mW g ad8 none none Q10] ++ [mW g adM kM (some (ad8 0)) M]) := b_perm [1] [0] 2 rfl rfl rfl rfl
      refine b_call0 ⟨rfl, rfl⟩ (va_runV (As := []) (rest := []) ⟨hx, hb, hml, hown, hts⟩ (m_X3_startNight l D g H.size ad8 none none fu Q10 Q11 hc11) (cwV 0 hts (lw_V q1810 q1812 qs58 q79 q1813) rfl rfl rfl (by decide +kernel) ⟨Nat.le_of_ble_eq_true rfl, Nat.le_of_ble_eq_true rfl⟩) (b_preV (pp := 1) (q := 0) hW hp11 rfl mW_0 rfl) rfl rfl hl.1 rfl (lv_room (Nat.le_of_ble_eq_true rfl)) dX3_two_37 ⟨o_q2 hq9.1, o_q2 hq9.2⟩) hW hp11 (fun _ _ H locs hW => ?_)
      have hW : bW D g A s H locs [mW g ad8 none none Q11, mW g adM kM (some (ad8 0)) M] := hW
      refine lv_iconst (v := 0) hx hb dX3_two_40 (by decide) ?_
      refine lv_istore (lv' := [(4, .int 0), (3, .ref (ad8 0)), (0, .ref (adM 0)), (1, .int x1), (2, .int x2)]) hx hb dX3_two_41 hl (by decide) rfl (fun ls hl => ?_)
      obtain ⟨stp12, est12, hf⟩ := o_ln hf
      have L12 : ∀ (n : Nat) (v13 : Int32) (Q14 : BC) (H : Heap) (locs : List Loc) (ls : Array Slot), bW D g A s H locs [mW g ad8 none none Q14, mW g adM kM (some (ad8 0)) M] → lv_has ls 7 [(4, .int v13), (3, .ref (ad8 0)), (0, .ref (adM 0)), (1, .int x1), (2, .int x2)] → o_lp stp12 n (v13, Q14) = some (rO, MO, TO) → W p l e (rm_X3_two tQ) s m args below meth c H locs (0 + o_k 45 tQ) (0 + o_k 842 tQ) Q (F0 m 43 ls []) := by
        intro n12
        induction n12 with
        | zero => intro v13 Q14 H locs ls hW hl hf; exact (o_lz hf).elim
        | succ n12 ih12 =>
          intro v13 Q14 H locs ls hW hl hf
          have hf := o_lu est12 hf
          rw [f_X3_two_L43] at hf
          refine lv_iload hx hb dX3_two_43 (lv_at hl 0 rfl) ?_
          refine lv_iconst (v := 2) hx hb dX3_two_45 (by decide) ?_
          refine lv_icmp_ge (tgt := 167) hx hb dX3_two_46 (by decide) (fun c15 => ?_) (fun c15 => ?_)
          · have hf := o_t hf c15
            refine lv_aload_n hx hb dX3_two_167 rfl (lv_at hl 1 rfl) ?_
            refine lv_iconst (v := (-1)) hx hb dX3_two_168 (by decide) ?_
            obtain ⟨r16, hc16, hf⟩ := o_b1s hf
            have hp16 : List.Perm [mW g ad8 none none Q14, mW g adM kM (some (ad8 0)) M] ([mW g ad8 none none Q14] ++ [mW g adM kM (some (ad8 0)) M]) := b_perm [0] [1] 2 rfl rfl rfl rfl
            refine b_call0 ⟨rfl, rfl⟩ (va_runV (As := [.int (-1)]) (rest := []) ⟨hx, hb, hml, hown, hts⟩ (m_X3_joyBy l D g H.size ad8 none none fu Q14 (-1) r16 hc16) (cwV 1 hts (lw_V q1838 q1840 qs61 q79 q1841) rfl rfl rfl (by decide +kernel) ⟨Nat.le_of_ble_eq_true rfl, Nat.le_of_ble_eq_true rfl⟩) (b_preV (pp := 0) (q := 0) hW hp16 rfl mW_0 rfl) rfl rfl hl.1 rfl (lv_room (Nat.le_of_ble_eq_true rfl)) dX3_two_169 ⟨o_q2 hq9.1, o_q2 hq9.2⟩) hW hp16 (fun _ _ H locs hW => ?_)
            have hW : bW D g A s H locs [mW g ad8 none none Q14, mW g adM kM (some (ad8 0)) M] := hW
            refine W.widen (k := o_k 45 tQ) (n := o_k 842 tQ) (o_q3 hq9.1) (o_q3 hq9.2) ?_
            cases hf
            exact b_iret hx hb hr hlk hE (b_perms hW (b_ord [1, 0] 2 rfl rfl rfl)) (some (ad8, Q14)) rfl rfl rfl dX3_two_172
          · have hf := o_f hf c15
            refine lv_iconst (v := 0) hx hb dX3_two_49 (by decide) ?_
            refine lv_istore (lv' := [(5, .int 0), (4, .int v13), (3, .ref (ad8 0)), (0, .ref (adM 0)), (1, .int x1), (2, .int x2)]) hx hb dX3_two_50 hl (by decide) rfl (fun ls hl => ?_)
            obtain ⟨stp17, est17, hf⟩ := o_ln hf
            have L17 : ∀ (n : Nat) (v18 : Int32) (Q19 : BC) (H : Heap) (locs : List Loc) (ls : Array Slot), bW D g A s H locs [mW g ad8 none none Q19, mW g adM kM (some (ad8 0)) M] → lv_has ls 7 [(5, .int v18), (4, .int v13), (3, .ref (ad8 0)), (0, .ref (adM 0)), (1, .int x1), (2, .int x2)] → o_lp stp17 n (v18, Q19) = some (rO, MO, TO) → W p l e (rm_X3_two tQ) s m args below meth c H locs (0 + o_k 45 tQ) (0 + o_k 842 tQ) Q (F0 m 52 ls []) := by
              intro n17
              induction n17 with
              | zero => intro v18 Q19 H locs ls hW hl hf; exact (o_lz hf).elim
              | succ n17 ih17 =>
                intro v18 Q19 H locs ls hW hl hf
                have hf := o_lu est17 hf
                rw [f_X3_two_L52] at hf
                refine lv_iload hx hb dX3_two_52 (lv_at hl 0 rfl) ?_
                refine lv_aload_n hx hb dX3_two_54 rfl (lv_at hl 3 rfl) ?_
                refine b_get hx hb hts in_X3 hown hW 1 0 3 11 rfl mW_0 rfl (by decide) ⟨rfl, rfl, rfl⟩ (hts _ q1470) mW_g11 dX3_two_55 ?_
                refine lv_icmp_ge (tgt := 161) hx hb dX3_two_58 (by decide) (fun c20 => ?_) (fun c20 => ?_)
                · have hf := o_t hf c20
                  obtain ⟨v21, ev21, hf⟩ := o_ls hf
                  refine lv_iinc (v := v21) (lv' := [(4, .int v21), (5, .int v18), (3, .ref (ad8 0)), (0, .ref (adM 0)), (1, .int x1), (2, .int x2)]) hx hb dX3_two_161 hl (k := 1) rfl ev21 (by decide) rfl (fun ls hl => ?_)
                  refine lv_goto (tgt := 43) hx hb dX3_two_164 (by decide) ?_
                  exact ih12 _ _ _ _ _ hW (lv_sub hl [0, 2, 3, 4, 5] rfl) hf
                · have hf := o_f hf c20
                  refine lv_aload_n hx hb dX3_two_61 rfl (lv_at hl 3 rfl) ?_
                  refine b_get hx hb hts in_X3 hown hW 1 0 3 12 rfl mW_0 rfl (by decide) ⟨rfl, rfl, rfl⟩ (hts _ q1471) mW_g12 dX3_two_62 ?_
                  refine lv_iload hx hb dX3_two_65 (lv_at hl 0 rfl) ?_
                  obtain ⟨h22, hf⟩ := o_cs hf
                  refine b_agrI hx hb hW 1 24 rfl mW_24 h22 dX3_two_67 ?_
                  refine lv_iconst (v := 0) hx hb dX3_two_68 (by decide) ?_
                  refine b_iald hx hb hW 1 (25 + ix v18) rfl (mW_r25 (inB_lt h22)) (by decide) dX3_two_69 ?_
                  refine lv_iconst (v := 5) hx hb dX3_two_70 (by decide) ?_
                  refine lv_icmp_ne (tgt := 78) hx hb dX3_two_71 (by decide) (fun c23 => ?_) (fun c23 => ?_)
                  · have hf := o_f hf c23
                    refine lv_iconst (v := 0) hx hb dX3_two_78 (by decide) ?_
                    refine lv_iload hx hb dX3_two_79 (lv_at hl 1 rfl) ?_
                    refine lv_iconst (v := 1) hx hb dX3_two_81 (by decide) ?_
                    refine lv_icmp_ne (tgt := 89) hx hb dX3_two_82 (by decide) (fun c24 => ?_) (fun c24 => ?_)
                    · have hf := o_f hf c24
                      refine lv_iconst (v := 0) hx hb dX3_two_89 (by decide) ?_
                      refine lv_icmp_ne (tgt := 155) hx hb dX3_two_90 (by decide) (fun hc => absurd hc (by decide)) (fun hc => ?_)
                      refine lv_aload_n hx hb dX3_two_93 rfl (lv_at hl 3 rfl) ?_
                      refine lv_iload hx hb dX3_two_94 (lv_at hl 0 rfl) ?_
                      obtain ⟨r25, hc25, hf⟩ := o_b1s hf
                      have hp25 : List.Perm [mW g ad8 none none Q19, mW g adM kM (some (ad8 0)) M] ([mW g adM kM (some (ad8 0)) M] ++ [mW g ad8 none none Q19]) := b_perm [1] [0] 2 rfl rfl rfl rfl
                      refine b_call0 ⟨rfl, rfl⟩ (va_runV (As := [.int v18]) (rest := []) ⟨hx, hb, hml, hown, hts⟩ (m_X3_isByBook l D g H.size adM kM (some (ad8 0)) M v18 r25 hc25) (cwV 1 hts (lw_V q1854 q1856 qs63 q79 q1857) rfl rfl rfl (by decide +kernel) ⟨Nat.le_of_ble_eq_true rfl, Nat.le_of_ble_eq_true rfl⟩) (b_preV (pp := 1) (q := 0) hW hp25 rfl mW_0 rfl) rfl rfl hl.1 rfl (lv_room (Nat.le_of_ble_eq_true rfl)) dX3_two_96 ⟨o_q2 hq9.1, o_q2 hq9.2⟩) hW hp25 (fun _ _ H locs hW => ?_)
                      have hW : bW D g A s H locs [mW g adM kM (some (ad8 0)) M, mW g ad8 none none Q19] := hW
                      refine lv_if_eq (tgt := 116) hx hb dX3_two_99 (by decide) (fun c26 => ?_) (fun c26 => ?_)
                      · have hf := o_t hf c26
                        refine lv_iconst (v := 0) hx hb dX3_two_116 (by decide) ?_
                        refine lv_istore (lv' := [(6, .int 0), (5, .int v18), (4, .int v13), (3, .ref (ad8 0)), (0, .ref (adM 0)), (1, .int x1), (2, .int x2)]) hx hb dX3_two_117 hl (by decide) rfl (fun ls hl => ?_)
                        refine lv_aload_n hx hb dX3_two_119 rfl (lv_at hl 3 rfl) ?_
                        refine lv_iload_n hx hb dX3_two_120 rfl (lv_at hl 5 rfl) ?_
                        obtain ⟨Q27, hc27, hf⟩ := o_b1s hf
                        have hp27 : List.Perm [mW g adM kM (some (ad8 0)) M, mW g ad8 none none Q19] ([mW g ad8 none none Q19] ++ [mW g adM kM (some (ad8 0)) M]) := b_perm [1] [0] 2 rfl rfl rfl rfl
                        refine b_call0 ⟨rfl, rfl⟩ (va_runV (As := [.int x1]) (rest := []) ⟨hx, hb, hml, hown, hts⟩ (m_X3_readBook l D g H.size ad8 none none fu Q19 x1 Q27 hc27) (cwV 1 hts (lw_V q1906 q1908 qs67 q79 q1909) rfl rfl rfl (by decide +kernel) ⟨Nat.le_of_ble_eq_true rfl, Nat.le_of_ble_eq_true rfl⟩) (b_preV (pp := 1) (q := 0) hW hp27 rfl mW_0 rfl) rfl rfl hl.1 rfl (lv_room (Nat.le_of_ble_eq_true rfl)) dX3_two_121 ⟨o_q2 hq9.1, o_q2 hq9.2⟩) hW hp27 (fun _ _ H locs hW => ?_)
                        have hW : bW D g A s H locs [mW g ad8 none none Q27, mW g adM kM (some (ad8 0)) M] := hW
                        refine lv_aload_n hx hb dX3_two_124 rfl (lv_at hl 3 rfl) ?_
                        refine lv_iload hx hb dX3_two_125 (lv_at hl 1 rfl) ?_
                        refine lv_aload_n hx hb dX3_two_127 rfl (lv_at hl 4 rfl) ?_
                        refine b_get hx hb hts in_X3 hown hW 1 0 3 12 rfl mW_0 rfl (by decide) ⟨rfl, rfl, rfl⟩ (hts _ q1471) mW_g12 dX3_two_128 ?_
                        refine lv_iload hx hb dX3_two_131 (lv_at hl 1 rfl) ?_
                        refine b_agrI hx hb hW 1 24 rfl mW_24 h22 dX3_two_133 ?_
                        refine lv_iconst (v := 1) hx hb dX3_two_134 (by decide) ?_
                        refine b_iald hx hb hW 1 (25 + ix v18) rfl (mW_r25 (inB_lt h22)) (by decide) dX3_two_135 ?_
                        refine lv_iload hx hb dX3_two_136 (lv_at hl 0 rfl) ?_
                        refine lv_isub hx hb dX3_two_138 ?_
                        obtain ⟨Q28, hc28, hf⟩ := o_b1s hf
                        have hp28 : List.Perm [mW g ad8 none none Q27, mW g adM kM (some (ad8 0)) M] ([mW g ad8 none none Q27] ++ [mW g adM kM (some (ad8 0)) M]) := b_perm [0] [1] 2 rfl rfl rfl rfl
                        refine b_call0 ⟨rfl, rfl⟩ (va_runV (As := [.int v18, .int ((M.1 (25 + ix v18) (ix 1)) - 0)]) (rest := []) ⟨hx, hb, hml, hown, hts⟩ (m_X3_comes l D g H.size ad8 none none fu Q27 v18 ((M.1 (25 + ix v18) (ix 1)) - 0) Q28 hc28) (cwV 2 hts (lw_V q1814 q1816 qs59 q79 q1817) rfl rfl rfl (by decide +kernel) ⟨Nat.le_of_ble_eq_true rfl, Nat.le_of_ble_eq_true rfl⟩) (b_preV (pp := 0) (q := 0) hW hp28 rfl mW_0 rfl) rfl rfl hl.1 rfl (lv_room (Nat.le_of_ble_eq_true rfl)) dX3_two_139 ⟨o_q2 hq9.1, o_q2 hq9.2⟩) hW hp28 (fun _ _ H locs hW => ?_)
                        have hW : bW D g A s H locs [mW g ad8 none none Q28, mW g adM kM (some (ad8 0)) M] := hW
                        refine lv_aload_n hx hb dX3_two_142 rfl (lv_at hl 3 rfl) ?_
                        refine lv_iload_n hx hb dX3_two_143 rfl (lv_at hl 6 rfl) ?_
                        obtain ⟨Q29, hc29, hf⟩ := o_b1s hf
                        have hp29 : List.Perm [mW g ad8 none none Q28, mW g adM kM (some (ad8 0)) M] ([mW g ad8 none none Q28] ++ [mW g adM kM (some (ad8 0)) M]) := b_perm [0] [1] 2 rfl rfl rfl rfl
                        refine b_call0 ⟨rfl, rfl⟩ (va_runV (As := [.int x2]) (rest := []) ⟨hx, hb, hml, hown, hts⟩ (m_X3_readBook l D g H.size ad8 none none fu Q28 x2 Q29 hc29) (cwV 1 hts (lw_V q1906 q1908 qs67 q79 q1909) rfl rfl rfl (by decide +kernel) ⟨Nat.le_of_ble_eq_true rfl, Nat.le_of_ble_eq_true rfl⟩) (b_preV (pp := 0) (q := 0) hW hp29 rfl mW_0 rfl) rfl rfl hl.1 rfl (lv_room (Nat.le_of_ble_eq_true rfl)) dX3_two_144 ⟨o_q2 hq9.1, o_q2 hq9.2⟩) hW hp29 (fun _ _ H locs hW => ?_)
                        have hW : bW D g A s H locs [mW g ad8 none none Q29, mW g adM kM (some (ad8 0)) M] := hW
                        refine lv_aload_n hx hb dX3_two_147 rfl (lv_at hl 3 rfl) ?_
                        refine lv_iload hx hb dX3_two_148 (lv_at hl 1 rfl) ?_
                        refine lv_iload hx hb dX3_two_150 (lv_at hl 0 rfl) ?_
                        obtain ⟨Q30, hc30, hf⟩ := o_b1s hf
                        have hp30 : List.Perm [mW g ad8 none none Q29, mW g adM kM (some (ad8 0)) M] ([mW g ad8 none none Q29] ++ [mW g adM kM (some (ad8 0)) M]) := b_perm [0] [1] 2 rfl rfl rfl rfl
                        refine b_call0 ⟨rfl, rfl⟩ (va_runV (As := [.int v18, .int 0]) (rest := []) ⟨hx, hb, hml, hown, hts⟩ (m_X3_comes l D g H.size ad8 none none fu Q29 v18 0 Q30 hc30) (cwV 2 hts (lw_V q1814 q1816 qs59 q79 q1817) rfl rfl rfl (by decide +kernel) ⟨Nat.le_of_ble_eq_true rfl, Nat.le_of_ble_eq_true rfl⟩) (b_preV (pp := 0) (q := 0) hW hp30 rfl mW_0 rfl) rfl rfl hl.1 rfl (lv_room (Nat.le_of_ble_eq_true rfl)) dX3_two_152 ⟨o_q2 hq9.1, o_q2 hq9.2⟩) hW hp30 (fun _ _ H locs hW => ?_)
                        have hW : bW D g A s H locs [mW g ad8 none none Q30, mW g adM kM (some (ad8 0)) M] := hW
                        obtain ⟨v31, ev31, hf⟩ := o_ls hf
                        refine lv_iinc (v := v31) (lv' := [(5, .int v31), (6, .int 0), (4, .int v13), (3, .ref (ad8 0)), (0, .ref (adM 0)), (1, .int x1), (2, .int x2)]) hx hb dX3_two_155 hl (k := 1) rfl ev31 (by decide) rfl (fun ls hl => ?_)
                        refine lv_goto (tgt := 52) hx hb dX3_two_158 (by decide) ?_
                        exact ih17 _ _ _ _ _ hW (lv_sub hl [0, 2, 3, 4, 5, 6] rfl) hf
                      · have hf := o_f hf c26
                        refine lv_aload_n hx hb dX3_two_102 rfl (lv_at hl 3 rfl) ?_
                        refine b_get hx hb hts in_X3 hown hW 0 0 3 12 rfl mW_0 rfl (by decide) ⟨rfl, rfl, rfl⟩ (hts _ q1471) mW_g12 dX3_two_103 ?_
                        refine lv_iload hx hb dX3_two_106 (lv_at hl 0 rfl) ?_
                        refine b_agrI hx hb hW 0 24 rfl mW_24 h22 dX3_two_108 ?_
                        refine lv_iconst (v := 1) hx hb dX3_two_109 (by decide) ?_
                        refine b_iald hx hb hW 0 (25 + ix v18) rfl (mW_r25 (inB_lt h22)) (by decide) dX3_two_110 ?_
                        refine lv_iconst (v := 2) hx hb dX3_two_111 (by decide) ?_
                        refine lv_idiv hx hb dX3_two_112 (by decide) ?_
                        refine lv_goto (tgt := 117) hx hb dX3_two_113 (by decide) ?_
                        obtain ⟨v32, ev32, hf⟩ := o_ls hf
                        refine b_topi ev32 ?_
                        refine lv_istore (lv' := [(6, .int v32), (5, .int v18), (4, .int v13), (3, .ref (ad8 0)), (0, .ref (adM 0)), (1, .int x1), (2, .int x2)]) hx hb dX3_two_117 hl (by decide) rfl (fun ls hl => ?_)
                        refine lv_aload_n hx hb dX3_two_119 rfl (lv_at hl 3 rfl) ?_
                        refine lv_iload_n hx hb dX3_two_120 rfl (lv_at hl 5 rfl) ?_
                        obtain ⟨Q33, hc33, hf⟩ := o_b1s hf
                        have hp33 : List.Perm [mW g adM kM (some (ad8 0)) M, mW g ad8 none none Q19] ([mW g ad8 none none Q19] ++ [mW g adM kM (some (ad8 0)) M]) := b_perm [1] [0] 2 rfl rfl rfl rfl
                        refine b_call0 ⟨rfl, rfl⟩ (va_runV (As := [.int x1]) (rest := []) ⟨hx, hb, hml, hown, hts⟩ (m_X3_readBook l D g H.size ad8 none none fu Q19 x1 Q33 hc33) (cwV 1 hts (lw_V q1906 q1908 qs67 q79 q1909) rfl rfl rfl (by decide +kernel) ⟨Nat.le_of_ble_eq_true rfl, Nat.le_of_ble_eq_true rfl⟩) (b_preV (pp := 1) (q := 0) hW hp33 rfl mW_0 rfl) rfl rfl hl.1 rfl (lv_room (Nat.le_of_ble_eq_true rfl)) dX3_two_121 ⟨o_q2 hq9.1, o_q2 hq9.2⟩) hW hp33 (fun _ _ H locs hW => ?_)
                        have hW : bW D g A s H locs [mW g ad8 none none Q33, mW g adM kM (some (ad8 0)) M] := hW
                        refine lv_aload_n hx hb dX3_two_124 rfl (lv_at hl 3 rfl) ?_
                        refine lv_iload hx hb dX3_two_125 (lv_at hl 1 rfl) ?_
                        refine lv_aload_n hx hb dX3_two_127 rfl (lv_at hl 4 rfl) ?_
                        refine b_get hx hb hts in_X3 hown hW 1 0 3 12 rfl mW_0 rfl (by decide) ⟨rfl, rfl, rfl⟩ (hts _ q1471) mW_g12 dX3_two_128 ?_
                        refine lv_iload hx hb dX3_two_131 (lv_at hl 1 rfl) ?_
                        refine b_agrI hx hb hW 1 24 rfl mW_24 h22 dX3_two_133 ?_
                        refine lv_iconst (v := 1) hx hb dX3_two_134 (by decide) ?_
                        refine b_iald hx hb hW 1 (25 + ix v18) rfl (mW_r25 (inB_lt h22)) (by decide) dX3_two_135 ?_
                        refine lv_iload hx hb dX3_two_136 (lv_at hl 0 rfl) ?_
                        refine lv_isub hx hb dX3_two_138 ?_
                        obtain ⟨Q34, hc34, hf⟩ := o_b1s hf
                        have hp34 : List.Perm [mW g ad8 none none Q33, mW g adM kM (some (ad8 0)) M] ([mW g ad8 none none Q33] ++ [mW g adM kM (some (ad8 0)) M]) := b_perm [0] [1] 2 rfl rfl rfl rfl
                        refine b_call0 ⟨rfl, rfl⟩ (va_runV (As := [.int v18, .int ((M.1 (25 + ix v18) (ix 1)) - v32)]) (rest := []) ⟨hx, hb, hml, hown, hts⟩ (m_X3_comes l D g H.size ad8 none none fu Q33 v18 ((M.1 (25 + ix v18) (ix 1)) - v32) Q34 hc34) (cwV 2 hts (lw_V q1814 q1816 qs59 q79 q1817) rfl rfl rfl (by decide +kernel) ⟨Nat.le_of_ble_eq_true rfl, Nat.le_of_ble_eq_true rfl⟩) (b_preV (pp := 0) (q := 0) hW hp34 rfl mW_0 rfl) rfl rfl hl.1 rfl (lv_room (Nat.le_of_ble_eq_true rfl)) dX3_two_139 ⟨o_q2 hq9.1, o_q2 hq9.2⟩) hW hp34 (fun _ _ H locs hW => ?_)
                        have hW : bW D g A s H locs [mW g ad8 none none Q34, mW g adM kM (some (ad8 0)) M] := hW
                        refine lv_aload_n hx hb dX3_two_142 rfl (lv_at hl 3 rfl) ?_
                        refine lv_iload_n hx hb dX3_two_143 rfl (lv_at hl 6 rfl) ?_
                        obtain ⟨Q35, hc35, hf⟩ := o_b1s hf
                        have hp35 : List.Perm [mW g ad8 none none Q34, mW g adM kM (some (ad8 0)) M] ([mW g ad8 none none Q34] ++ [mW g adM kM (some (ad8 0)) M]) := b_perm [0] [1] 2 rfl rfl rfl rfl
                        refine b_call0 ⟨rfl, rfl⟩ (va_runV (As := [.int x2]) (rest := []) ⟨hx, hb, hml, hown, hts⟩ (m_X3_readBook l D g H.size ad8 none none fu Q34 x2 Q35 hc35) (cwV 1 hts (lw_V q1906 q1908 qs67 q79 q1909) rfl rfl rfl (by decide +kernel) ⟨Nat.le_of_ble_eq_true rfl, Nat.le_of_ble_eq_true rfl⟩) (b_preV (pp := 0) (q := 0) hW hp35 rfl mW_0 rfl) rfl rfl hl.1 rfl (lv_room (Nat.le_of_ble_eq_true rfl)) dX3_two_144 ⟨o_q2 hq9.1, o_q2 hq9.2⟩) hW hp35 (fun _ _ H locs hW => ?_)
                        have hW : bW D g A s H locs [mW g ad8 none none Q35, mW g adM kM (some (ad8 0)) M] := hW
                        refine lv_aload_n hx hb dX3_two_147 rfl (lv_at hl 3 rfl) ?_
                        refine lv_iload hx hb dX3_two_148 (lv_at hl 1 rfl) ?_
                        refine lv_iload hx hb dX3_two_150 (lv_at hl 0 rfl) ?_
                        obtain ⟨Q36, hc36, hf⟩ := o_b1s hf
                        have hp36 : List.Perm [mW g ad8 none none Q35, mW g adM kM (some (ad8 0)) M] ([mW g ad8 none none Q35] ++ [mW g adM kM (some (ad8 0)) M]) := b_perm [0] [1] 2 rfl rfl rfl rfl
                        refine b_call0 ⟨rfl, rfl⟩ (va_runV (As := [.int v18, .int v32]) (rest := []) ⟨hx, hb, hml, hown, hts⟩ (m_X3_comes l D g H.size ad8 none none fu Q35 v18 v32 Q36 hc36) (cwV 2 hts (lw_V q1814 q1816 qs59 q79 q1817) rfl rfl rfl (by decide +kernel) ⟨Nat.le_of_ble_eq_true rfl, Nat.le_of_ble_eq_true rfl⟩) (b_preV (pp := 0) (q := 0) hW hp36 rfl mW_0 rfl) rfl rfl hl.1 rfl (lv_room (Nat.le_of_ble_eq_true rfl)) dX3_two_152 ⟨o_q2 hq9.1, o_q2 hq9.2⟩) hW hp36 (fun _ _ H locs hW => ?_)
                        have hW : bW D g A s H locs [mW g ad8 none none Q36, mW g adM kM (some (ad8 0)) M] := hW
                        obtain ⟨v37, ev37, hf⟩ := o_ls hf
                        refine lv_iinc (v := v37) (lv' := [(5, .int v37), (6, .int v32), (4, .int v13), (3, .ref (ad8 0)), (0, .ref (adM 0)), (1, .int x1), (2, .int x2)]) hx hb dX3_two_155 hl (k := 1) rfl ev37 (by decide) rfl (fun ls hl => ?_)
                        refine lv_goto (tgt := 52) hx hb dX3_two_158 (by decide) ?_
                        exact ih17 _ _ _ _ _ hW (lv_sub hl [0, 2, 3, 4, 5, 6] rfl) hf
                    · have hf := o_t hf c24
                      refine lv_iconst (v := 1) hx hb dX3_two_85 (by decide) ?_
                      refine lv_goto (tgt := 90) hx hb dX3_two_86 (by decide) ?_
                      refine lv_icmp_ne (tgt := 155) hx hb dX3_two_90 (by decide) (fun hc => ?_) (fun hc => absurd hc (by decide))
                      obtain ⟨v38, ev38, hf⟩ := o_ls hf
                      refine lv_iinc (v := v38) (lv' := [(5, .int v38), (4, .int v13), (3, .ref (ad8 0)), (0, .ref (adM 0)), (1, .int x1), (2, .int x2)]) hx hb dX3_two_155 hl (k := 0) rfl ev38 (by decide) rfl (fun ls hl => ?_)
                      refine lv_goto (tgt := 52) hx hb dX3_two_158 (by decide) ?_
                      exact ih17 _ _ _ _ _ hW (lv_sub hl [0, 1, 2, 3, 4, 5] rfl) hf
                  · have hf := o_t hf c23
                    refine lv_iconst (v := 1) hx hb dX3_two_74 (by decide) ?_
                    refine lv_goto (tgt := 79) hx hb dX3_two_75 (by decide) ?_
                    refine lv_iload hx hb dX3_two_79 (lv_at hl 1 rfl) ?_
                    refine lv_iconst (v := 1) hx hb dX3_two_81 (by decide) ?_
                    refine lv_icmp_ne (tgt := 89) hx hb dX3_two_82 (by decide) (fun c39 => ?_) (fun c39 => ?_)
                    · have hf := o_f hf c39
                      refine lv_iconst (v := 0) hx hb dX3_two_89 (by decide) ?_
                      refine lv_icmp_ne (tgt := 155) hx hb dX3_two_90 (by decide) (fun hc => ?_) (fun hc => absurd hc (by decide))
                      obtain ⟨v40, ev40, hf⟩ := o_ls hf
                      refine lv_iinc (v := v40) (lv' := [(5, .int v40), (4, .int v13), (3, .ref (ad8 0)), (0, .ref (adM 0)), (1, .int x1), (2, .int x2)]) hx hb dX3_two_155 hl (k := 0) rfl ev40 (by decide) rfl (fun ls hl => ?_)
                      refine lv_goto (tgt := 52) hx hb dX3_two_158 (by decide) ?_
                      exact ih17 _ _ _ _ _ hW (lv_sub hl [0, 1, 2, 3, 4, 5] rfl) hf
                    · have hf := o_t hf c39
                      refine lv_iconst (v := 1) hx hb dX3_two_85 (by decide) ?_
                      refine lv_goto (tgt := 90) hx hb dX3_two_86 (by decide) ?_
                      refine lv_icmp_ne (tgt := 155) hx hb dX3_two_90 (by decide) (fun hc => absurd hc (by decide)) (fun hc => ?_)
                      refine lv_aload_n hx hb dX3_two_93 rfl (lv_at hl 3 rfl) ?_
                      refine lv_iload hx hb dX3_two_94 (lv_at hl 0 rfl) ?_
                      obtain ⟨r41, hc41, hf⟩ := o_b1s hf
                      have hp41 : List.Perm [mW g ad8 none none Q19, mW g adM kM (some (ad8 0)) M] ([mW g adM kM (some (ad8 0)) M] ++ [mW g ad8 none none Q19]) := b_perm [1] [0] 2 rfl rfl rfl rfl
                      refine b_call0 ⟨rfl, rfl⟩ (va_runV (As := [.int v18]) (rest := []) ⟨hx, hb, hml, hown, hts⟩ (m_X3_isByBook l D g H.size adM kM (some (ad8 0)) M v18 r41 hc41) (cwV 1 hts (lw_V q1854 q1856 qs63 q79 q1857) rfl rfl rfl (by decide +kernel) ⟨Nat.le_of_ble_eq_true rfl, Nat.le_of_ble_eq_true rfl⟩) (b_preV (pp := 1) (q := 0) hW hp41 rfl mW_0 rfl) rfl rfl hl.1 rfl (lv_room (Nat.le_of_ble_eq_true rfl)) dX3_two_96 ⟨o_q2 hq9.1, o_q2 hq9.2⟩) hW hp41 (fun _ _ H locs hW => ?_)
                      have hW : bW D g A s H locs [mW g adM kM (some (ad8 0)) M, mW g ad8 none none Q19] := hW
                      refine lv_if_eq (tgt := 116) hx hb dX3_two_99 (by decide) (fun c42 => ?_) (fun c42 => ?_)
                      · have hf := o_t hf c42
                        refine lv_iconst (v := 0) hx hb dX3_two_116 (by decide) ?_
                        refine lv_istore (lv' := [(6, .int 0), (5, .int v18), (4, .int v13), (3, .ref (ad8 0)), (0, .ref (adM 0)), (1, .int x1), (2, .int x2)]) hx hb dX3_two_117 hl (by decide) rfl (fun ls hl => ?_)
                        refine lv_aload_n hx hb dX3_two_119 rfl (lv_at hl 3 rfl) ?_
                        refine lv_iload_n hx hb dX3_two_120 rfl (lv_at hl 5 rfl) ?_
                        obtain ⟨Q43, hc43, hf⟩ := o_b1s hf
                        have hp43 : List.Perm [mW g adM kM (some (ad8 0)) M, mW g ad8 none none Q19] ([mW g ad8 none none Q19] ++ [mW g adM kM (some (ad8 0)) M]) := b_perm [1] [0] 2 rfl rfl rfl rfl
                        refine b_call0 ⟨rfl, rfl⟩ (va_runV (As := [.int x1]) (rest := []) ⟨hx, hb, hml, hown, hts⟩ (m_X3_readBook l D g H.size ad8 none none fu Q19 x1 Q43 hc43) (cwV 1 hts (lw_V q1906 q1908 qs67 q79 q1909) rfl rfl rfl (by decide +kernel) ⟨Nat.le_of_ble_eq_true rfl, Nat.le_of_ble_eq_true rfl⟩) (b_preV (pp := 1) (q := 0) hW hp43 rfl mW_0 rfl) rfl rfl hl.1 rfl (lv_room (Nat.le_of_ble_eq_true rfl)) dX3_two_121 ⟨o_q2 hq9.1, o_q2 hq9.2⟩) hW hp43 (fun _ _ H locs hW => ?_)
                        have hW : bW D g A s H locs [mW g ad8 none none Q43, mW g adM kM (some (ad8 0)) M] := hW
                        refine lv_aload_n hx hb dX3_two_124 rfl (lv_at hl 3 rfl) ?_
                        refine lv_iload hx hb dX3_two_125 (lv_at hl 1 rfl) ?_
                        refine lv_aload_n hx hb dX3_two_127 rfl (lv_at hl 4 rfl) ?_
                        refine b_get hx hb hts in_X3 hown hW 1 0 3 12 rfl mW_0 rfl (by decide) ⟨rfl, rfl, rfl⟩ (hts _ q1471) mW_g12 dX3_two_128 ?_
                        refine lv_iload hx hb dX3_two_131 (lv_at hl 1 rfl) ?_
                        refine b_agrI hx hb hW 1 24 rfl mW_24 h22 dX3_two_133 ?_
                        refine lv_iconst (v := 1) hx hb dX3_two_134 (by decide) ?_
                        refine b_iald hx hb hW 1 (25 + ix v18) rfl (mW_r25 (inB_lt h22)) (by decide) dX3_two_135 ?_
                        refine lv_iload hx hb dX3_two_136 (lv_at hl 0 rfl) ?_
                        refine lv_isub hx hb dX3_two_138 ?_
                        obtain ⟨Q44, hc44, hf⟩ := o_b1s hf
                        have hp44 : List.Perm [mW g ad8 none none Q43, mW g adM kM (some (ad8 0)) M] ([mW g ad8 none none Q43] ++ [mW g adM kM (some (ad8 0)) M]) := b_perm [0] [1] 2 rfl rfl rfl rfl
                        refine b_call0 ⟨rfl, rfl⟩ (va_runV (As := [.int v18, .int ((M.1 (25 + ix v18) (ix 1)) - 0)]) (rest := []) ⟨hx, hb, hml, hown, hts⟩ (m_X3_comes l D g H.size ad8 none none fu Q43 v18 ((M.1 (25 + ix v18) (ix 1)) - 0) Q44 hc44) (cwV 2 hts (lw_V q1814 q1816 qs59 q79 q1817) rfl rfl rfl (by decide +kernel) ⟨Nat.le_of_ble_eq_true rfl, Nat.le_of_ble_eq_true rfl⟩) (b_preV (pp := 0) (q := 0) hW hp44 rfl mW_0 rfl) rfl rfl hl.1 rfl (lv_room (Nat.le_of_ble_eq_true rfl)) dX3_two_139 ⟨o_q2 hq9.1, o_q2 hq9.2⟩) hW hp44 (fun _ _ H locs hW => ?_)
                        have hW : bW D g A s H locs [mW g ad8 none none Q44, mW g adM kM (some (ad8 0)) M] := hW
                        refine lv_aload_n hx hb dX3_two_142 rfl (lv_at hl 3 rfl) ?_
                        refine lv_iload_n hx hb dX3_two_143 rfl (lv_at hl 6 rfl) ?_
                        obtain ⟨Q45, hc45, hf⟩ := o_b1s hf
                        have hp45 : List.Perm [mW g ad8 none none Q44, mW g adM kM (some (ad8 0)) M] ([mW g ad8 none none Q44] ++ [mW g adM kM (some (ad8 0)) M]) := b_perm [0] [1] 2 rfl rfl rfl rfl
                        refine b_call0 ⟨rfl, rfl⟩ (va_runV (As := [.int x2]) (rest := []) ⟨hx, hb, hml, hown, hts⟩ (m_X3_readBook l D g H.size ad8 none none fu Q44 x2 Q45 hc45) (cwV 1 hts (lw_V q1906 q1908 qs67 q79 q1909) rfl rfl rfl (by decide +kernel) ⟨Nat.le_of_ble_eq_true rfl, Nat.le_of_ble_eq_true rfl⟩) (b_preV (pp := 0) (q := 0) hW hp45 rfl mW_0 rfl) rfl rfl hl.1 rfl (lv_room (Nat.le_of_ble_eq_true rfl)) dX3_two_144 ⟨o_q2 hq9.1, o_q2 hq9.2⟩) hW hp45 (fun _ _ H locs hW => ?_)
                        have hW : bW D g A s H locs [mW g ad8 none none Q45, mW g adM kM (some (ad8 0)) M] := hW
                        refine lv_aload_n hx hb dX3_two_147 rfl (lv_at hl 3 rfl) ?_
                        refine lv_iload hx hb dX3_two_148 (lv_at hl 1 rfl) ?_
                        refine lv_iload hx hb dX3_two_150 (lv_at hl 0 rfl) ?_
                        obtain ⟨Q46, hc46, hf⟩ := o_b1s hf
                        have hp46 : List.Perm [mW g ad8 none none Q45, mW g adM kM (some (ad8 0)) M] ([mW g ad8 none none Q45] ++ [mW g adM kM (some (ad8 0)) M]) := b_perm [0] [1] 2 rfl rfl rfl rfl
                        refine b_call0 ⟨rfl, rfl⟩ (va_runV (As := [.int v18, .int 0]) (rest := []) ⟨hx, hb, hml, hown, hts⟩ (m_X3_comes l D g H.size ad8 none none fu Q45 v18 0 Q46 hc46) (cwV 2 hts (lw_V q1814 q1816 qs59 q79 q1817) rfl rfl rfl (by decide +kernel) ⟨Nat.le_of_ble_eq_true rfl, Nat.le_of_ble_eq_true rfl⟩) (b_preV (pp := 0) (q := 0) hW hp46 rfl mW_0 rfl) rfl rfl hl.1 rfl (lv_room (Nat.le_of_ble_eq_true rfl)) dX3_two_152 ⟨o_q2 hq9.1, o_q2 hq9.2⟩) hW hp46 (fun _ _ H locs hW => ?_)
                        have hW : bW D g A s H locs [mW g ad8 none none Q46, mW g adM kM (some (ad8 0)) M] := hW
                        obtain ⟨v47, ev47, hf⟩ := o_ls hf
                        refine lv_iinc (v := v47) (lv' := [(5, .int v47), (6, .int 0), (4, .int v13), (3, .ref (ad8 0)), (0, .ref (adM 0)), (1, .int x1), (2, .int x2)]) hx hb dX3_two_155 hl (k := 1) rfl ev47 (by decide) rfl (fun ls hl => ?_)
                        refine lv_goto (tgt := 52) hx hb dX3_two_158 (by decide) ?_
                        exact ih17 _ _ _ _ _ hW (lv_sub hl [0, 2, 3, 4, 5, 6] rfl) hf
                      · have hf := o_f hf c42
                        refine lv_aload_n hx hb dX3_two_102 rfl (lv_at hl 3 rfl) ?_
                        refine b_get hx hb hts in_X3 hown hW 0 0 3 12 rfl mW_0 rfl (by decide) ⟨rfl, rfl, rfl⟩ (hts _ q1471) mW_g12 dX3_two_103 ?_
                        refine lv_iload hx hb dX3_two_106 (lv_at hl 0 rfl) ?_
                        refine b_agrI hx hb hW 0 24 rfl mW_24 h22 dX3_two_108 ?_
                        refine lv_iconst (v := 1) hx hb dX3_two_109 (by decide) ?_
                        refine b_iald hx hb hW 0 (25 + ix v18) rfl (mW_r25 (inB_lt h22)) (by decide) dX3_two_110 ?_
                        refine lv_iconst (v := 2) hx hb dX3_two_111 (by decide) ?_
                        refine lv_idiv hx hb dX3_two_112 (by decide) ?_
                        refine lv_goto (tgt := 117) hx hb dX3_two_113 (by decide) ?_
                        obtain ⟨v48, ev48, hf⟩ := o_ls hf
                        refine b_topi ev48 ?_
                        refine lv_istore (lv' := [(6, .int v48), (5, .int v18), (4, .int v13), (3, .ref (ad8 0)), (0, .ref (adM 0)), (1, .int x1), (2, .int x2)]) hx hb dX3_two_117 hl (by decide) rfl (fun ls hl => ?_)
                        refine lv_aload_n hx hb dX3_two_119 rfl (lv_at hl 3 rfl) ?_
                        refine lv_iload_n hx hb dX3_two_120 rfl (lv_at hl 5 rfl) ?_
                        obtain ⟨Q49, hc49, hf⟩ := o_b1s hf
                        have hp49 : List.Perm [mW g adM kM (some (ad8 0)) M, mW g ad8 none none Q19] ([mW g ad8 none none Q19] ++ [mW g adM kM (some (ad8 0)) M]) := b_perm [1] [0] 2 rfl rfl rfl rfl
                        refine b_call0 ⟨rfl, rfl⟩ (va_runV (As := [.int x1]) (rest := []) ⟨hx, hb, hml, hown, hts⟩ (m_X3_readBook l D g H.size ad8 none none fu Q19 x1 Q49 hc49) (cwV 1 hts (lw_V q1906 q1908 qs67 q79 q1909) rfl rfl rfl (by decide +kernel) ⟨Nat.le_of_ble_eq_true rfl, Nat.le_of_ble_eq_true rfl⟩) (b_preV (pp := 1) (q := 0) hW hp49 rfl mW_0 rfl) rfl rfl hl.1 rfl (lv_room (Nat.le_of_ble_eq_true rfl)) dX3_two_121 ⟨o_q2 hq9.1, o_q2 hq9.2⟩) hW hp49 (fun _ _ H locs hW => ?_)
                        have hW : bW D g A s H locs [mW g ad8 none none Q49, mW g adM kM (some (ad8 0)) M] := hW
                        refine lv_aload_n hx hb dX3_two_124 rfl (lv_at hl 3 rfl) ?_
                        refine lv_iload hx hb dX3_two_125 (lv_at hl 1 rfl) ?_
                        refine lv_aload_n hx hb dX3_two_127 rfl (lv_at hl 4 rfl) ?_
                        refine b_get hx hb hts in_X3 hown hW 1 0 3 12 rfl mW_0 rfl (by decide) ⟨rfl, rfl, rfl⟩ (hts _ q1471) mW_g12 dX3_two_128 ?_
                        refine lv_iload hx hb dX3_two_131 (lv_at hl 1 rfl) ?_
                        refine b_agrI hx hb hW 1 24 rfl mW_24 h22 dX3_two_133 ?_
                        refine lv_iconst (v := 1) hx hb dX3_two_134 (by decide) ?_
                        refine b_iald hx hb hW 1 (25 + ix v18) rfl (mW_r25 (inB_lt h22)) (by decide) dX3_two_135 ?_
                        refine lv_iload hx hb dX3_two_136 (lv_at hl 0 rfl) ?_
                        refine lv_isub hx hb dX3_two_138 ?_
                        obtain ⟨Q50, hc50, hf⟩ := o_b1s hf
                        have hp50 : List.Perm [mW g ad8 none none Q49, mW g adM kM (some (ad8 0)) M] ([mW g ad8 none none Q49] ++ [mW g adM kM (some (ad8 0)) M]) := b_perm [0] [1] 2 rfl rfl rfl rfl
                        refine b_call0 ⟨rfl, rfl⟩ (va_runV (As := [.int v18, .int ((M.1 (25 + ix v18) (ix 1)) - v48)]) (rest := []) ⟨hx, hb, hml, hown, hts⟩ (m_X3_comes l D g H.size ad8 none none fu Q49 v18 ((M.1 (25 + ix v18) (ix 1)) - v48) Q50 hc50) (cwV 2 hts (lw_V q1814 q1816 qs59 q79 q1817) rfl rfl rfl (by decide +kernel) ⟨Nat.le_of_ble_eq_true rfl, Nat.le_of_ble_eq_true rfl⟩) (b_preV (pp := 0) (q := 0) hW hp50 rfl mW_0 rfl) rfl rfl hl.1 rfl (lv_room (Nat.le_of_ble_eq_true rfl)) dX3_two_139 ⟨o_q2 hq9.1, o_q2 hq9.2⟩) hW hp50 (fun _ _ H locs hW => ?_)
                        have hW : bW D g A s H locs [mW g ad8 none none Q50, mW g adM kM (some (ad8 0)) M] := hW
                        refine lv_aload_n hx hb dX3_two_142 rfl (lv_at hl 3 rfl) ?_
                        refine lv_iload_n hx hb dX3_two_143 rfl (lv_at hl 6 rfl) ?_
                        obtain ⟨Q51, hc51, hf⟩ := o_b1s hf
                        have hp51 : List.Perm [mW g ad8 none none Q50, mW g adM kM (some (ad8 0)) M] ([mW g ad8 none none Q50] ++ [mW g adM kM (some (ad8 0)) M]) := b_perm [0] [1] 2 rfl rfl rfl rfl
                        refine b_call0 ⟨rfl, rfl⟩ (va_runV (As := [.int x2]) (rest := []) ⟨hx, hb, hml, hown, hts⟩ (m_X3_readBook l D g H.size ad8 none none fu Q50 x2 Q51 hc51) (cwV 1 hts (lw_V q1906 q1908 qs67 q79 q1909) rfl rfl rfl (by decide +kernel) ⟨Nat.le_of_ble_eq_true rfl, Nat.le_of_ble_eq_true rfl⟩) (b_preV (pp := 0) (q := 0) hW hp51 rfl mW_0 rfl) rfl rfl hl.1 rfl (lv_room (Nat.le_of_ble_eq_true rfl)) dX3_two_144 ⟨o_q2 hq9.1, o_q2 hq9.2⟩) hW hp51 (fun _ _ H locs hW => ?_)
                        have hW : bW D g A s H locs [mW g ad8 none none Q51, mW g adM kM (some (ad8 0)) M] := hW
                        refine lv_aload_n hx hb dX3_two_147 rfl (lv_at hl 3 rfl) ?_
                        refine lv_iload hx hb dX3_two_148 (lv_at hl 1 rfl) ?_
                        refine lv_iload hx hb dX3_two_150 (lv_at hl 0 rfl) ?_
                        obtain ⟨Q52, hc52, hf⟩ := o_b1s hf
                        have hp52 : List.Perm [mW g ad8 none none Q51, mW g adM kM (some (ad8 0)) M] ([mW g ad8 none none Q51] ++ [mW g adM kM (some (ad8 0)) M]) := b_perm [0] [1] 2 rfl rfl rfl rfl
                        refine b_call0 ⟨rfl, rfl⟩ (va_runV (As := [.int v18, .int v48]) (rest := []) ⟨hx, hb, hml, hown, hts⟩ (m_X3_comes l D g H.size ad8 none none fu Q51 v18 v48 Q52 hc52) (cwV 2 hts (lw_V q1814 q1816 qs59 q79 q1817) rfl rfl rfl (by decide +kernel) ⟨Nat.le_of_ble_eq_true rfl, Nat.le_of_ble_eq_true rfl⟩) (b_preV (pp := 0) (q := 0) hW hp52 rfl mW_0 rfl) rfl rfl hl.1 rfl (lv_room (Nat.le_of_ble_eq_true rfl)) dX3_two_152 ⟨o_q2 hq9.1, o_q2 hq9.2⟩) hW hp52 (fun _ _ H locs hW => ?_)
                        have hW : bW D g A s H locs [mW g ad8 none none Q52, mW g adM kM (some (ad8 0)) M] := hW
                        obtain ⟨v53, ev53, hf⟩ := o_ls hf
                        refine lv_iinc (v := v53) (lv' := [(5, .int v53), (6, .int v48), (4, .int v13), (3, .ref (ad8 0)), (0, .ref (adM 0)), (1, .int x1), (2, .int x2)]) hx hb dX3_two_155 hl (k := 1) rfl ev53 (by decide) rfl (fun ls hl => ?_)
                        refine lv_goto (tgt := 52) hx hb dX3_two_158 (by decide) ?_
                        exact ih17 _ _ _ _ _ hW (lv_sub hl [0, 2, 3, 4, 5, 6] rfl) hf
            exact L17 _ _ _ _ _ _ hW (lv_sub hl [0, 1, 2, 3, 4, 5] rfl) hf
      exact L12 _ _ _ _ _ _ hW (lv_sub hl [0, 1, 2, 3, 4] rfl) hf
    · have hf := o_t hf c6
      refine lv_ldc (v := (-1000000)) hx hb hown (hts _ q1801) dX3_two_16 ?_
      refine lv_aload_n hx hb dX3_two_18 rfl (lv_at hl 0 rfl) ?_
      refine lv_bipush (v := (-2)) hx hb dX3_two_19 (by decide) ?_
      obtain ⟨r54, M55, hc55, hf⟩ := o_b2s hf
      have hp55 : List.Perm [mW g adM kM (o_a tQ) M, oM g tQ] ([mW g adM kM (o_a tQ) M] ++ [oM g tQ]) := b_perm [0] [1] 2 rfl rfl rfl rfl
      refine b_call0 ⟨rfl, rfl⟩ (va_runV (As := [.int (-2)]) (rest := [.int (-1000000)]) ⟨hx, hb, hml, hown, hts⟩ (m_X3_refuse l D g H.size adM kM (o_a tQ) M (-2) r54 M55 hc55) (cwV 1 hts (lw_V q1572 q1574 qs33 q79 q1575) rfl rfl rfl (by decide +kernel) ⟨Nat.le_of_ble_eq_true rfl, Nat.le_of_ble_eq_true rfl⟩) (b_preV (pp := 0) (q := 0) hW hp55 rfl mW_0 rfl) rfl rfl hl.1 rfl (lv_room (Nat.le_of_ble_eq_true rfl)) dX3_two_21 ⟨o_q2 hq0.1, o_q2 hq0.2⟩) hW hp55 (fun _ _ H locs hW => ?_)
      have hW : bW D g A s H locs [mW g adM kM (o_a tQ) M55, oM g tQ] := hW
      refine lv_iadd hx hb dX3_two_24 ?_
      refine W.widen (k := o_k 45 tQ) (n := o_k 842 tQ) (o_q3 hq0.1) (o_q3 hq0.2) ?_
      cases hf
      exact b_iret hx hb hr hlk hE hW tQ rfl rfl rfl dX3_two_25
def f_X3_years (fu : Nat) (M : BC) (To : Option BC) (x1 : Int32) (x2 : Int32) : Option (Int32 × BC × Option BC) :=
 o_b1 (f_X3_isYears x1) fun (r1 : Int32) =>
 (if r1 = 0 then
 o_b2 (f_X3_refuse M (-2)) fun (r3 : Int32) (M4 : BC) =>
 some ((-1000000) + r3, M4, To)
 else
 (if x2 = (-1) then
 o_b1 (f_X3_fresh fu M To) fun (T6 : BC) =>
 o_b2 (f_X3_joyIn fu T6 x1 x2) fun (r9 : Int32) (Q10 : BC) =>
 some (r9, M, (some Q10))
 else
 o_b1 (f_X3_isGoer M x2) fun (r11 : Int32) =>
 (if r11 = 0 then
 o_b2 (f_X3_refuse M (-2)) fun (r18 : Int32) (M19 : BC) =>
 some ((-1000000) + r18, M19, To)
 else
 o_b1 (f_X3_fresh fu M To) fun (T13 : BC) =>
 o_b2 (f_X3_joyIn fu T13 x1 x2) fun (r16 : Int32) (Q17 : BC) =>
 some (r16, M, (some Q17)))))
abbrev rm_X3_years (tQ : Option ((Nat → Nat) × BC)) : Room := { frames := 6, cells := o_k 45 tQ, slots := o_k 842 tQ, locals := 143 }
set_option maxHeartbeats 4000000 in
set_option maxRecDepth 100000 in
theorem m_X3_years (l : Launch) (D : va_G) (g : Nat → ClassId) (sz : Nat) (adM : Nat → Nat) (kM : Option Nat) (tQ : Option ((Nat → Nat) × BC)) (fu : Nat) (M : BC) (x1 : Int32) (x2 : Int32) (rO : Int32) (MO : BC) (TO : Option BC) (hf : f_X3_years fu M (tQ.map Prod.snd) x1 x2 = some (rO, MO, TO)) : bMet (S := Option ((Nat → Nat) × BC)) l yX3_years (ws_ yX3_years cX3_years 3 (some .int)) (rm_X3_years tQ) D g sz [.ref (adM 0), .int x1, .int x2] [mW g adM kM (o_a tQ) M, oM g tQ] (fun tQ1 => tQ1.map Prod.snd = TO) (fun _ => some (.int rO)) (fun tQ1 => [mW g adM kM (o_a tQ1) MO, oM g tQ1]) := by
  refine b_met (by decide) (Nat.le_of_ble_eq_true rfl) ?_
  intro p e s m args below meth c A Q ls hx hb hml hr hlk hown hname hts hE hl hW
  revert hW; generalize s.heap = H; intro hW
  have hl : lv_has ls 3 [(0, .ref (adM 0)), (1, .int x1), (2, .int x2)] := hl
  rw [f_X3_years] at hf
  have hq0 : 0 + o_k 45 tQ ≤ o_k 45 tQ ∧ 0 + o_k 842 tQ ≤ o_k 842 tQ := ⟨Nat.le_of_eq (Nat.zero_add _), Nat.le_of_eq (Nat.zero_add _)⟩
  refine lv_iload_n hx hb dX3_years_0 rfl (lv_at hl 1 rfl) ?_
  obtain ⟨r1, hc1, hf⟩ := o_b1s hf
  have hp1 : List.Perm [mW g adM kM (o_a tQ) M, oM g tQ] ([] ++ [mW g adM kM (o_a tQ) M, oM g tQ]) := b_perm [] [0, 1] 2 rfl rfl rfl rfl
  refine b_call0 ⟨rfl, rfl⟩ (va_runS (As := [.int x1]) (rest := []) ⟨hx, hb, hml, hown, hts⟩ (m_X3_isYears l D g H.size x1 r1 hc1) (va_cwS 1 hts (lw_S q1918 q1919 q79 q1920) rfl rfl rfl (by decide +kernel) ⟨Nat.le_of_ble_eq_true rfl, Nat.le_of_ble_eq_true rfl⟩) (b_preS hW hp1) rfl rfl hl.1 rfl (lv_room (Nat.le_of_ble_eq_true rfl)) dX3_years_1 ⟨o_q2 hq0.1, o_q2 hq0.2⟩) hW hp1 (fun _ _ H locs hW => ?_)
  have hW : bW D g A s H locs [mW g adM kM (o_a tQ) M, oM g tQ] := hW
  refine lv_if_eq (tgt := 20) hx hb dX3_years_4 (by decide) (fun c2 => ?_) (fun c2 => ?_)
  · have hf := o_t hf c2
    refine lv_ldc (v := (-1000000)) hx hb hown (hts _ q1801) dX3_years_20 ?_
    refine lv_aload_n hx hb dX3_years_22 rfl (lv_at hl 0 rfl) ?_
    refine lv_bipush (v := (-2)) hx hb dX3_years_23 (by decide) ?_
    obtain ⟨r3, M4, hc4, hf⟩ := o_b2s hf
    have hp4 : List.Perm [mW g adM kM (o_a tQ) M, oM g tQ] ([mW g adM kM (o_a tQ) M] ++ [oM g tQ]) := b_perm [0] [1] 2 rfl rfl rfl rfl
    refine b_call0 ⟨rfl, rfl⟩ (va_runV (As := [.int (-2)]) (rest := [.int (-1000000)]) ⟨hx, hb, hml, hown, hts⟩ (m_X3_refuse l D g H.size adM kM (o_a tQ) M (-2) r3 M4 hc4) (cwV 1 hts (lw_V q1572 q1574 qs33 q79 q1575) rfl rfl rfl (by decide +kernel) ⟨Nat.le_of_ble_eq_true rfl, Nat.le_of_ble_eq_true rfl⟩) (b_preV (pp := 0) (q := 0) hW hp4 rfl mW_0 rfl) rfl rfl hl.1 rfl (lv_room (Nat.le_of_ble_eq_true rfl)) dX3_years_25 ⟨o_q2 hq0.1, o_q2 hq0.2⟩) hW hp4 (fun _ _ H locs hW => ?_)
    have hW : bW D g A s H locs [mW g adM kM (o_a tQ) M4, oM g tQ] := hW
    refine lv_iadd hx hb dX3_years_28 ?_
    refine W.widen (k := o_k 45 tQ) (n := o_k 842 tQ) (o_q3 hq0.1) (o_q3 hq0.2) ?_
    cases hf
    exact b_iret hx hb hr hlk hE hW tQ rfl rfl rfl dX3_years_29
  · have hf := o_f hf c2
    refine lv_iload_n hx hb dX3_years_7 rfl (lv_at hl 2 rfl) ?_
    refine lv_iconst (v := (-1)) hx hb dX3_years_8 (by decide) ?_
    refine lv_icmp_eq (tgt := 30) hx hb dX3_years_9 (by decide) (fun c5 => ?_) (fun c5 => ?_)
    · have hf := o_t hf c5
      refine lv_aload_n hx hb dX3_years_30 rfl (lv_at hl 0 rfl) ?_
      obtain ⟨T6, hc7, hf⟩ := o_b1s hf
      have hp7 : List.Perm [mW g adM kM (o_a tQ) M, oM g tQ] ([mW g adM kM (o_a tQ) M, oM g tQ] ++ []) := b_perm [0, 1] [] 2 rfl rfl rfl rfl
      refine b_call (va_runV (As := []) (rest := []) ⟨hx, hb, hml, hown, hts⟩ (m_X3_fresh l D g H.size adM kM tQ fu M T6 hc7) (cwV 0 hts (lw_V q1701 q1703 qs45 q79 q1704) rfl rfl rfl (by decide +kernel) ⟨Nat.le_of_ble_eq_true rfl, Nat.le_of_ble_eq_true rfl⟩) (b_preV (pp := 0) (q := 0) hW hp7 rfl mW_0 rfl) rfl rfl hl.1 rfl (lv_room (Nat.le_of_ble_eq_true rfl)) dX3_years_31 ⟨hq0.1, hq0.2⟩) hW hp7 (fun ad7 _ H locs hW => ?_)
      refine W.cs (cells' := (0 + o_k 45 tQ)) (slots' := (0 + o_k 842 tQ)) rfl rfl ?_
      have hq8 : (0 + o_k 45 tQ) + o_k 45 (some (ad7, T6)) ≤ o_k 45 tQ ∧ (0 + o_k 842 tQ) + o_k 842 (some (ad7, T6)) ≤ o_k 842 tQ := hq0
      have hW : bW D g A s H locs [mW g adM kM (some (ad7 0)) M, mW g ad7 none none T6] := hW
      refine lv_iload_n hx hb dX3_years_34 rfl (lv_at hl 1 rfl) ?_
      refine lv_iload_n hx hb dX3_years_35 rfl (lv_at hl 2 rfl) ?_
      obtain ⟨r9, Q10, hc10, hf⟩ := o_b2s hf
      have hp10 : List.Perm [mW g adM kM (some (ad7 0)) M, mW g ad7 none none T6] ([mW g ad7 none none T6] ++ [mW g adM kM (some (ad7 0)) M]) := b_perm [1] [0] 2 rfl rfl rfl rfl
      refine b_call0 ⟨rfl, rfl⟩ (va_runV (As := [.int x1, .int x2]) (rest := []) ⟨hx, hb, hml, hown, hts⟩ (m_X3_joyIn l D g H.size ad7 none none fu T6 x1 x2 r9 Q10 hc10) (cwV 2 hts (lw_V q1922 q1924 qs68 q79 q1925) rfl rfl rfl (by decide +kernel) ⟨Nat.le_of_ble_eq_true rfl, Nat.le_of_ble_eq_true rfl⟩) (b_preV (pp := 1) (q := 0) hW hp10 rfl mW_0 rfl) rfl rfl hl.1 rfl (lv_room (Nat.le_of_ble_eq_true rfl)) dX3_years_36 ⟨o_q2 hq8.1, o_q2 hq8.2⟩) hW hp10 (fun _ _ H locs hW => ?_)
      have hW : bW D g A s H locs [mW g ad7 none none Q10, mW g adM kM (some (ad7 0)) M] := hW
      refine W.widen (k := o_k 45 tQ) (n := o_k 842 tQ) (o_q3 hq8.1) (o_q3 hq8.2) ?_
      cases hf
      exact b_iret hx hb hr hlk hE (b_perms hW (b_ord [1, 0] 2 rfl rfl rfl)) (some (ad7, Q10)) rfl rfl rfl dX3_years_39
    · have hf := o_f hf c5
      refine lv_aload_n hx hb dX3_years_12 rfl (lv_at hl 0 rfl) ?_
      refine lv_iload_n hx hb dX3_years_13 rfl (lv_at hl 2 rfl) ?_
      obtain ⟨r11, hc11, hf⟩ := o_b1s hf
      have hp11 : List.Perm [mW g adM kM (o_a tQ) M, oM g tQ] ([mW g adM kM (o_a tQ) M] ++ [oM g tQ]) := b_perm [0] [1] 2 rfl rfl rfl rfl
      refine b_call0 ⟨rfl, rfl⟩ (va_runV (As := [.int x2]) (rest := []) ⟨hx, hb, hml, hown, hts⟩ (m_X3_isGoer l D g H.size adM kM (o_a tQ) M x2 r11 hc11) (cwV 1 hts (lw_V q1603 q1605 qs35 q79 q1606) rfl rfl rfl (by decide +kernel) ⟨Nat.le_of_ble_eq_true rfl, Nat.le_of_ble_eq_true rfl⟩) (b_preV (pp := 0) (q := 0) hW hp11 rfl mW_0 rfl) rfl rfl hl.1 rfl (lv_room (Nat.le_of_ble_eq_true rfl)) dX3_years_14 ⟨o_q2 hq0.1, o_q2 hq0.2⟩) hW hp11 (fun _ _ H locs hW => ?_)
      have hW : bW D g A s H locs [mW g adM kM (o_a tQ) M, oM g tQ] := hW
      refine lv_if_ne (tgt := 30) hx hb dX3_years_17 (by decide) (fun c12 => ?_) (fun c12 => ?_)
      · have hf := o_f hf c12
        refine lv_aload_n hx hb dX3_years_30 rfl (lv_at hl 0 rfl) ?_
        obtain ⟨T13, hc14, hf⟩ := o_b1s hf
        have hp14 : List.Perm [mW g adM kM (o_a tQ) M, oM g tQ] ([mW g adM kM (o_a tQ) M, oM g tQ] ++ []) := b_perm [0, 1] [] 2 rfl rfl rfl rfl
        refine b_call (va_runV (As := []) (rest := []) ⟨hx, hb, hml, hown, hts⟩ (m_X3_fresh l D g H.size adM kM tQ fu M T13 hc14) (cwV 0 hts (lw_V q1701 q1703 qs45 q79 q1704) rfl rfl rfl (by decide +kernel) ⟨Nat.le_of_ble_eq_true rfl, Nat.le_of_ble_eq_true rfl⟩) (b_preV (pp := 0) (q := 0) hW hp14 rfl mW_0 rfl) rfl rfl hl.1 rfl (lv_room (Nat.le_of_ble_eq_true rfl)) dX3_years_31 ⟨hq0.1, hq0.2⟩) hW hp14 (fun ad14 _ H locs hW => ?_)
        refine W.cs (cells' := (0 + o_k 45 tQ)) (slots' := (0 + o_k 842 tQ)) rfl rfl ?_
        have hq15 : (0 + o_k 45 tQ) + o_k 45 (some (ad14, T13)) ≤ o_k 45 tQ ∧ (0 + o_k 842 tQ) + o_k 842 (some (ad14, T13)) ≤ o_k 842 tQ := hq0
        have hW : bW D g A s H locs [mW g adM kM (some (ad14 0)) M, mW g ad14 none none T13] := hW
        refine lv_iload_n hx hb dX3_years_34 rfl (lv_at hl 1 rfl) ?_
        refine lv_iload_n hx hb dX3_years_35 rfl (lv_at hl 2 rfl) ?_
        obtain ⟨r16, Q17, hc17, hf⟩ := o_b2s hf
        have hp17 : List.Perm [mW g adM kM (some (ad14 0)) M, mW g ad14 none none T13] ([mW g ad14 none none T13] ++ [mW g adM kM (some (ad14 0)) M]) := b_perm [1] [0] 2 rfl rfl rfl rfl
        refine b_call0 ⟨rfl, rfl⟩ (va_runV (As := [.int x1, .int x2]) (rest := []) ⟨hx, hb, hml, hown, hts⟩ (m_X3_joyIn l D g H.size ad14 none none fu T13 x1 x2 r16 Q17 hc17) (cwV 2 hts (lw_V q1922 q1924 qs68 q79 q1925) rfl rfl rfl (by decide +kernel) ⟨Nat.le_of_ble_eq_true rfl, Nat.le_of_ble_eq_true rfl⟩) (b_preV (pp := 1) (q := 0) hW hp17 rfl mW_0 rfl) rfl rfl hl.1 rfl (lv_room (Nat.le_of_ble_eq_true rfl)) dX3_years_36 ⟨o_q2 hq15.1, o_q2 hq15.2⟩) hW hp17 (fun _ _ H locs hW => ?_)
        have hW : bW D g A s H locs [mW g ad14 none none Q17, mW g adM kM (some (ad14 0)) M] := hW
        refine W.widen (k := o_k 45 tQ) (n := o_k 842 tQ) (o_q3 hq15.1) (o_q3 hq15.2) ?_
        cases hf
        exact b_iret hx hb hr hlk hE (b_perms hW (b_ord [1, 0] 2 rfl rfl rfl)) (some (ad14, Q17)) rfl rfl rfl dX3_years_39
      · have hf := o_t hf c12
        refine lv_ldc (v := (-1000000)) hx hb hown (hts _ q1801) dX3_years_20 ?_
        refine lv_aload_n hx hb dX3_years_22 rfl (lv_at hl 0 rfl) ?_
        refine lv_bipush (v := (-2)) hx hb dX3_years_23 (by decide) ?_
        obtain ⟨r18, M19, hc19, hf⟩ := o_b2s hf
        have hp19 : List.Perm [mW g adM kM (o_a tQ) M, oM g tQ] ([mW g adM kM (o_a tQ) M] ++ [oM g tQ]) := b_perm [0] [1] 2 rfl rfl rfl rfl
        refine b_call0 ⟨rfl, rfl⟩ (va_runV (As := [.int (-2)]) (rest := [.int (-1000000)]) ⟨hx, hb, hml, hown, hts⟩ (m_X3_refuse l D g H.size adM kM (o_a tQ) M (-2) r18 M19 hc19) (cwV 1 hts (lw_V q1572 q1574 qs33 q79 q1575) rfl rfl rfl (by decide +kernel) ⟨Nat.le_of_ble_eq_true rfl, Nat.le_of_ble_eq_true rfl⟩) (b_preV (pp := 0) (q := 0) hW hp19 rfl mW_0 rfl) rfl rfl hl.1 rfl (lv_room (Nat.le_of_ble_eq_true rfl)) dX3_years_25 ⟨o_q2 hq0.1, o_q2 hq0.2⟩) hW hp19 (fun _ _ H locs hW => ?_)
        have hW : bW D g A s H locs [mW g adM kM (o_a tQ) M19, oM g tQ] := hW
        refine lv_iadd hx hb dX3_years_28 ?_
        refine W.widen (k := o_k 45 tQ) (n := o_k 842 tQ) (o_q3 hq0.1) (o_q3 hq0.2) ?_
        cases hf
        exact b_iret hx hb hr hlk hE hW tQ rfl rfl rfl dX3_years_29
def f_X3_then_L46 (M : BC) (x1 : Int32) (x2 : Int32) (x3 : Int32) (fu : Nat) (rec14 : (Int32 × Int32 × BC) → Option (Int32 × BC × Option BC)) : Int32 × Int32 × BC → Option (Int32 × BC × Option BC)
  | (v15, v16, Q17) =>
    (if x1 ≤ v16 then
     (if x3 = 0 then
     o_ck (inB x2 6) (some (Q17.1 (18 + ix x2) (ix 0), M, (some Q17)))
     else
     (if x3 = 1 then
     o_ck (inB x2 6) (some (Q17.1 (18 + ix x2) (ix 3), M, (some Q17)))
     else
     some (v15, M, (some Q17))))
     else
     o_b1 (f_X3_yearGoesBy fu Q17) fun (Q23 : BC) =>
     o_ck (inB x2 6) (o_lt (v15 + (Q23.1 43 (ix x2))) fun (v25 : Int32) =>
     o_lt (v16 + 1) fun (v26 : Int32) =>
     rec14 (v25, v26, Q23)))
def f_X3_then (fu : Nat) (M : BC) (To : Option BC) (x1 : Int32) (x2 : Int32) (x3 : Int32) : Option (Int32 × BC × Option BC) :=
 o_b1 (f_X3_isYears x1) fun (r1 : Int32) =>
 (if r1 = 0 then
 o_b2 (f_X3_refuse M (-2)) fun (r3 : Int32) (M4 : BC) =>
 some (r3, M4, To)
 else
 o_b1 (f_X3_isInn M x2) fun (r5 : Int32) =>
 (if r5 = 0 then
 o_b2 (f_X3_refuse M (-2)) fun (r7 : Int32) (M8 : BC) =>
 some (r7, M8, To)
 else
 o_b1 (f_X3_in x3.toInt64 0 2) fun (r9 : Int32) =>
 (if r9 = 0 then
 o_b2 (f_X3_refuse M (-2)) fun (r27 : Int32) (M28 : BC) =>
 some (r27, M28, To)
 else
 o_b1 (f_X3_fresh fu M To) fun (T11 : BC) =>
 o_lp (f_X3_then_L46 M x1 x2 x3 fu) fu (0, 0, T11))))
abbrev rm_X3_then (tQ : Option ((Nat → Nat) × BC)) : Room := { frames := 5, cells := o_k 45 tQ, slots := o_k 842 tQ, locals := 119 }
set_option maxHeartbeats 4000000 in
set_option maxRecDepth 100000 in
theorem m_X3_then (l : Launch) (D : va_G) (g : Nat → ClassId) (sz : Nat) (adM : Nat → Nat) (kM : Option Nat) (tQ : Option ((Nat → Nat) × BC)) (fu : Nat) (M : BC) (x1 : Int32) (x2 : Int32) (x3 : Int32) (rO : Int32) (MO : BC) (TO : Option BC) (hf : f_X3_then fu M (tQ.map Prod.snd) x1 x2 x3 = some (rO, MO, TO)) : bMet (S := Option ((Nat → Nat) × BC)) l yX3_then (ws_ yX3_then cX3_then 7 (some .int)) (rm_X3_then tQ) D g sz [.ref (adM 0), .int x1, .int x2, .int x3] [mW g adM kM (o_a tQ) M, oM g tQ] (fun tQ1 => tQ1.map Prod.snd = TO) (fun _ => some (.int rO)) (fun tQ1 => [mW g adM kM (o_a tQ1) MO, oM g tQ1]) := by
  refine b_met (by decide) (Nat.le_of_ble_eq_true rfl) ?_
  intro p e s m args below meth c A Q ls hx hb hml hr hlk hown hname hts hE hl hW
  revert hW; generalize s.heap = H; intro hW
  have hl : lv_has ls 7 [(0, .ref (adM 0)), (1, .int x1), (2, .int x2), (3, .int x3)] := hl
  rw [f_X3_then] at hf
  have hq0 : 0 + o_k 45 tQ ≤ o_k 45 tQ ∧ 0 + o_k 842 tQ ≤ o_k 842 tQ := ⟨Nat.le_of_eq (Nat.zero_add _), Nat.le_of_eq (Nat.zero_add _)⟩
  refine lv_iload_n hx hb dX3_then_0 rfl (lv_at hl 1 rfl) ?_
  obtain ⟨r1, hc1, hf⟩ := o_b1s hf
  have hp1 : List.Perm [mW g adM kM (o_a tQ) M, oM g tQ] ([] ++ [mW g adM kM (o_a tQ) M, oM g tQ]) := b_perm [] [0, 1] 2 rfl rfl rfl rfl
  refine b_call0 ⟨rfl, rfl⟩ (va_runS (As := [.int x1]) (rest := []) ⟨hx, hb, hml, hown, hts⟩ (m_X3_isYears l D g H.size x1 r1 hc1) (va_cwS 1 hts (lw_S q1918 q1919 q79 q1920) rfl rfl rfl (by decide +kernel) ⟨Nat.le_of_ble_eq_true rfl, Nat.le_of_ble_eq_true rfl⟩) (b_preS hW hp1) rfl rfl hl.1 rfl (lv_room (Nat.le_of_ble_eq_true rfl)) dX3_then_1 ⟨o_q2 hq0.1, o_q2 hq0.2⟩) hW hp1 (fun _ _ H locs hW => ?_)
  have hW : bW D g A s H locs [mW g adM kM (o_a tQ) M, oM g tQ] := hW
  refine lv_if_eq (tgt := 27) hx hb dX3_then_4 (by decide) (fun c2 => ?_) (fun c2 => ?_)
  · have hf := o_t hf c2
    refine lv_aload_n hx hb dX3_then_27 rfl (lv_at hl 0 rfl) ?_
    refine lv_bipush (v := (-2)) hx hb dX3_then_28 (by decide) ?_
    obtain ⟨r3, M4, hc4, hf⟩ := o_b2s hf
    have hp4 : List.Perm [mW g adM kM (o_a tQ) M, oM g tQ] ([mW g adM kM (o_a tQ) M] ++ [oM g tQ]) := b_perm [0] [1] 2 rfl rfl rfl rfl
    refine b_call0 ⟨rfl, rfl⟩ (va_runV (As := [.int (-2)]) (rest := []) ⟨hx, hb, hml, hown, hts⟩ (m_X3_refuse l D g H.size adM kM (o_a tQ) M (-2) r3 M4 hc4) (cwV 1 hts (lw_V q1572 q1574 qs33 q79 q1575) rfl rfl rfl (by decide +kernel) ⟨Nat.le_of_ble_eq_true rfl, Nat.le_of_ble_eq_true rfl⟩) (b_preV (pp := 0) (q := 0) hW hp4 rfl mW_0 rfl) rfl rfl hl.1 rfl (lv_room (Nat.le_of_ble_eq_true rfl)) dX3_then_30 ⟨o_q2 hq0.1, o_q2 hq0.2⟩) hW hp4 (fun _ _ H locs hW => ?_)
    have hW : bW D g A s H locs [mW g adM kM (o_a tQ) M4, oM g tQ] := hW
    refine W.widen (k := o_k 45 tQ) (n := o_k 842 tQ) (o_q3 hq0.1) (o_q3 hq0.2) ?_
    cases hf
    exact b_iret hx hb hr hlk hE hW tQ rfl rfl rfl dX3_then_33
  · have hf := o_f hf c2
    refine lv_aload_n hx hb dX3_then_7 rfl (lv_at hl 0 rfl) ?_
    refine lv_iload_n hx hb dX3_then_8 rfl (lv_at hl 2 rfl) ?_
    obtain ⟨r5, hc5, hf⟩ := o_b1s hf
    have hp5 : List.Perm [mW g adM kM (o_a tQ) M, oM g tQ] ([mW g adM kM (o_a tQ) M] ++ [oM g tQ]) := b_perm [0] [1] 2 rfl rfl rfl rfl
    refine b_call0 ⟨rfl, rfl⟩ (va_runV (As := [.int x2]) (rest := []) ⟨hx, hb, hml, hown, hts⟩ (m_X3_isInn l D g H.size adM kM (o_a tQ) M x2 r5 hc5) (cwV 1 hts (lw_V q1651 q1653 qs41 q79 q1654) rfl rfl rfl (by decide +kernel) ⟨Nat.le_of_ble_eq_true rfl, Nat.le_of_ble_eq_true rfl⟩) (b_preV (pp := 0) (q := 0) hW hp5 rfl mW_0 rfl) rfl rfl hl.1 rfl (lv_room (Nat.le_of_ble_eq_true rfl)) dX3_then_9 ⟨o_q2 hq0.1, o_q2 hq0.2⟩) hW hp5 (fun _ _ H locs hW => ?_)
    have hW : bW D g A s H locs [mW g adM kM (o_a tQ) M, oM g tQ] := hW
    refine lv_if_eq (tgt := 27) hx hb dX3_then_12 (by decide) (fun c6 => ?_) (fun c6 => ?_)
    · have hf := o_t hf c6
      refine lv_aload_n hx hb dX3_then_27 rfl (lv_at hl 0 rfl) ?_
      refine lv_bipush (v := (-2)) hx hb dX3_then_28 (by decide) ?_
      obtain ⟨r7, M8, hc8, hf⟩ := o_b2s hf
      have hp8 : List.Perm [mW g adM kM (o_a tQ) M, oM g tQ] ([mW g adM kM (o_a tQ) M] ++ [oM g tQ]) := b_perm [0] [1] 2 rfl rfl rfl rfl
      refine b_call0 ⟨rfl, rfl⟩ (va_runV (As := [.int (-2)]) (rest := []) ⟨hx, hb, hml, hown, hts⟩ (m_X3_refuse l D g H.size adM kM (o_a tQ) M (-2) r7 M8 hc8) (cwV 1 hts (lw_V q1572 q1574 qs33 q79 q1575) rfl rfl rfl (by decide +kernel) ⟨Nat.le_of_ble_eq_true rfl, Nat.le_of_ble_eq_true rfl⟩) (b_preV (pp := 0) (q := 0) hW hp8 rfl mW_0 rfl) rfl rfl hl.1 rfl (lv_room (Nat.le_of_ble_eq_true rfl)) dX3_then_30 ⟨o_q2 hq0.1, o_q2 hq0.2⟩) hW hp8 (fun _ _ H locs hW => ?_)
      have hW : bW D g A s H locs [mW g adM kM (o_a tQ) M8, oM g tQ] := hW
      refine W.widen (k := o_k 45 tQ) (n := o_k 842 tQ) (o_q3 hq0.1) (o_q3 hq0.2) ?_
      cases hf
      exact b_iret hx hb hr hlk hE hW tQ rfl rfl rfl dX3_then_33
    · have hf := o_f hf c6
      refine lv_iload_n hx hb dX3_then_15 rfl (lv_at hl 3 rfl) ?_
      refine lv_i2l hx hb dX3_then_16 rfl ?_
      refine lv_lconst (v := 0) hx hb dX3_then_17 (by decide) ?_
      refine lv_ldc2 (v := 2) hx hb hown (hts _ q1796) dX3_then_18 ?_
      obtain ⟨r9, hc9, hf⟩ := o_b1s hf
      have hp9 : List.Perm [mW g adM kM (o_a tQ) M, oM g tQ] ([] ++ [mW g adM kM (o_a tQ) M, oM g tQ]) := b_perm [] [0, 1] 2 rfl rfl rfl rfl
      refine b_call0 ⟨rfl, rfl⟩ (va_runS (As := [.long x3.toInt64, .long 0, .long 2]) (rest := []) ⟨hx, hb, hml, hown, hts⟩ (m_X3_in l D g H.size x3.toInt64 0 2 r9 hc9) (va_cwS 3 hts (lw_S q1567 q1568 q79 q1569) rfl rfl rfl (by decide +kernel) ⟨Nat.le_of_ble_eq_true rfl, Nat.le_of_ble_eq_true rfl⟩) (b_preS hW hp9) rfl rfl hl.1 rfl (lv_room (Nat.le_of_ble_eq_true rfl)) dX3_then_21 ⟨o_q2 hq0.1, o_q2 hq0.2⟩) hW hp9 (fun _ _ H locs hW => ?_)
      have hW : bW D g A s H locs [mW g adM kM (o_a tQ) M, oM g tQ] := hW
      refine lv_if_ne (tgt := 34) hx hb dX3_then_24 (by decide) (fun c10 => ?_) (fun c10 => ?_)
      · have hf := o_f hf c10
        refine lv_aload_n hx hb dX3_then_34 rfl (lv_at hl 0 rfl) ?_
        obtain ⟨T11, hc12, hf⟩ := o_b1s hf
        have hp12 : List.Perm [mW g adM kM (o_a tQ) M, oM g tQ] ([mW g adM kM (o_a tQ) M, oM g tQ] ++ []) := b_perm [0, 1] [] 2 rfl rfl rfl rfl
        refine b_call (va_runV (As := []) (rest := []) ⟨hx, hb, hml, hown, hts⟩ (m_X3_fresh l D g H.size adM kM tQ fu M T11 hc12) (cwV 0 hts (lw_V q1701 q1703 qs45 q79 q1704) rfl rfl rfl (by decide +kernel) ⟨Nat.le_of_ble_eq_true rfl, Nat.le_of_ble_eq_true rfl⟩) (b_preV (pp := 0) (q := 0) hW hp12 rfl mW_0 rfl) rfl rfl hl.1 rfl (lv_room (Nat.le_of_ble_eq_true rfl)) dX3_then_35 ⟨hq0.1, hq0.2⟩) hW hp12 (fun ad12 _ H locs hW => ?_)
        refine W.cs (cells' := (0 + o_k 45 tQ)) (slots' := (0 + o_k 842 tQ)) rfl rfl ?_
        have hq13 : (0 + o_k 45 tQ) + o_k 45 (some (ad12, T11)) ≤ o_k 45 tQ ∧ (0 + o_k 842 tQ) + o_k 842 (some (ad12, T11)) ≤ o_k 842 tQ := hq0
        have hW : bW D g A s H locs [mW g adM kM (some (ad12 0)) M, mW g ad12 none none T11] := hW
        refine lv_astore (lv' := [(4, .ref (ad12 0)), (0, .ref (adM 0)), (1, .int x1), (2, .int x2), (3, .int x3)]) hx hb dX3_then_38 hl (by decide) rfl (fun ls hl => ?_)
        refine lv_iconst (v := 0) hx hb dX3_then_40 (by decide) ?_
        refine lv_istore (lv' := [(5, .int 0), (4, .ref (ad12 0)), (0, .ref (adM 0)), (1, .int x1), (2, .int x2), (3, .int x3)]) hx hb dX3_then_41 hl (by decide) rfl (fun ls hl => ?_)
        refine lv_iconst (v := 0) hx hb dX3_then_43 (by decide) ?_
        refine lv_istore (lv' := [(6, .int 0), (5, .int 0), (4, .ref (ad12 0)), (0, .ref (adM 0)), (1, .int x1), (2, .int x2), (3, .int x3)]) hx hb dX3_then_44 hl (by decide) rfl (fun ls hl => ?_)
        obtain ⟨stp14, est14, hf⟩ := o_ln hf
        have L14 : ∀ (n : Nat) (v15 : Int32) (v16 : Int32) (Q17 : BC) (H : Heap) (locs : List Loc) (ls : Array Slot), bW D g A s H locs [mW g adM kM (some (ad12 0)) M, mW g ad12 none none Q17] → lv_has ls 7 [(6, .int v16), (5, .int v15), (4, .ref (ad12 0)), (1, .int x1), (2, .int x2), (3, .int x3)] → o_lp stp14 n (v15, v16, Q17) = some (rO, MO, TO) → W p l e (rm_X3_then tQ) s m args below meth c H locs (0 + o_k 45 tQ) (0 + o_k 842 tQ) Q (F0 m 46 ls []) := by
          intro n14
          induction n14 with
          | zero => intro v15 v16 Q17 H locs ls hW hl hf; exact (o_lz hf).elim
          | succ n14 ih14 =>
            intro v15 v16 Q17 H locs ls hW hl hf
            have hf := o_lu est14 hf
            rw [f_X3_then_L46] at hf
            refine lv_iload hx hb dX3_then_46 (lv_at hl 0 rfl) ?_
            refine lv_iload_n hx hb dX3_then_48 rfl (lv_at hl 3 rfl) ?_
            refine lv_icmp_ge (tgt := 75) hx hb dX3_then_49 (by decide) (fun c18 => ?_) (fun c18 => ?_)
            · have hf := o_t hf c18
              refine lv_iload_n hx hb dX3_then_75 rfl (lv_at hl 5 rfl) ?_
              refine lv_if_ne (tgt := 91) hx hb dX3_then_76 (by decide) (fun c19 => ?_) (fun c19 => ?_)
              · have hf := o_f hf c19
                refine lv_iload_n hx hb dX3_then_91 rfl (lv_at hl 5 rfl) ?_
                refine lv_iconst (v := 1) hx hb dX3_then_92 (by decide) ?_
                refine lv_icmp_ne (tgt := 108) hx hb dX3_then_93 (by decide) (fun c20 => ?_) (fun c20 => ?_)
                · have hf := o_f hf c20
                  refine lv_iload hx hb dX3_then_108 (lv_at hl 1 rfl) ?_
                  refine W.widen (k := o_k 45 tQ) (n := o_k 842 tQ) (o_q3 hq13.1) (o_q3 hq13.2) ?_
                  cases hf
                  exact b_iret hx hb hr hlk hE hW (some (ad12, Q17)) rfl rfl rfl dX3_then_110
                · have hf := o_t hf c20
                  refine lv_aload hx hb dX3_then_96 (lv_at hl 2 rfl) ?_
                  refine b_get hx hb hts in_X3 hown hW 1 0 3 10 rfl mW_0 rfl (by decide) ⟨rfl, rfl, rfl⟩ (hts _ q1469) mW_g10 dX3_then_98 ?_
                  refine lv_iload_n hx hb dX3_then_101 rfl (lv_at hl 4 rfl) ?_
                  obtain ⟨h21, hf⟩ := o_cs hf
                  refine b_agrI hx hb hW 1 17 rfl mW_17 h21 dX3_then_102 ?_
                  refine lv_iconst (v := 3) hx hb dX3_then_103 (by decide) ?_
                  refine b_iald hx hb hW 1 (18 + ix x2) rfl (mW_r18 (inB_lt h21)) (by decide) dX3_then_104 ?_
                  refine lv_goto (tgt := 110) hx hb dX3_then_105 (by decide) ?_
                  refine W.widen (k := o_k 45 tQ) (n := o_k 842 tQ) (o_q3 hq13.1) (o_q3 hq13.2) ?_
                  cases hf
                  exact b_iret hx hb hr hlk hE hW (some (ad12, Q17)) rfl rfl rfl dX3_then_110
              · have hf := o_t hf c19
                refine lv_aload hx hb dX3_then_79 (lv_at hl 2 rfl) ?_
                refine b_get hx hb hts in_X3 hown hW 1 0 3 10 rfl mW_0 rfl (by decide) ⟨rfl, rfl, rfl⟩ (hts _ q1469) mW_g10 dX3_then_81 ?_
                refine lv_iload_n hx hb dX3_then_84 rfl (lv_at hl 4 rfl) ?_
                obtain ⟨h22, hf⟩ := o_cs hf
                refine b_agrI hx hb hW 1 17 rfl mW_17 h22 dX3_then_85 ?_
                refine lv_iconst (v := 0) hx hb dX3_then_86 (by decide) ?_
                refine b_iald hx hb hW 1 (18 + ix x2) rfl (mW_r18 (inB_lt h22)) (by decide) dX3_then_87 ?_
                refine lv_goto (tgt := 110) hx hb dX3_then_88 (by decide) ?_
                refine W.widen (k := o_k 45 tQ) (n := o_k 842 tQ) (o_q3 hq13.1) (o_q3 hq13.2) ?_
                cases hf
                exact b_iret hx hb hr hlk hE hW (some (ad12, Q17)) rfl rfl rfl dX3_then_110
            · have hf := o_f hf c18
              refine lv_aload hx hb dX3_then_52 (lv_at hl 2 rfl) ?_
              obtain ⟨Q23, hc23, hf⟩ := o_b1s hf
              have hp23 : List.Perm [mW g adM kM (some (ad12 0)) M, mW g ad12 none none Q17] ([mW g ad12 none none Q17] ++ [mW g adM kM (some (ad12 0)) M]) := b_perm [1] [0] 2 rfl rfl rfl rfl
              refine b_call0 ⟨rfl, rfl⟩ (va_runV (As := []) (rest := []) ⟨hx, hb, hml, hown, hts⟩ (m_X3_yearGoesBy l D g H.size ad12 none none fu Q17 Q23 hc23) (cwV 0 hts (lw_V q1926 q1928 qs69 q79 q1929) rfl rfl rfl (by decide +kernel) ⟨Nat.le_of_ble_eq_true rfl, Nat.le_of_ble_eq_true rfl⟩) (b_preV (pp := 1) (q := 0) hW hp23 rfl mW_0 rfl) rfl rfl hl.1 rfl (lv_room (Nat.le_of_ble_eq_true rfl)) dX3_then_54 ⟨o_q2 hq13.1, o_q2 hq13.2⟩) hW hp23 (fun _ _ H locs hW => ?_)
              have hW : bW D g A s H locs [mW g ad12 none none Q23, mW g adM kM (some (ad12 0)) M] := hW
              refine lv_iload hx hb dX3_then_57 (lv_at hl 1 rfl) ?_
              refine lv_aload hx hb dX3_then_59 (lv_at hl 2 rfl) ?_
              refine b_get hx hb hts in_X3 hown hW 0 0 3 31 rfl mW_0 rfl (by decide) ⟨rfl, rfl, rfl⟩ (hts _ q1490) mW_g31 dX3_then_61 ?_
              refine lv_iload_n hx hb dX3_then_64 rfl (lv_at hl 4 rfl) ?_
              obtain ⟨h24, hf⟩ := o_cs hf
              refine b_iald hx hb hW 0 43 rfl mW_43 h24 dX3_then_65 ?_
              refine lv_iadd hx hb dX3_then_66 ?_
              obtain ⟨v25, ev25, hf⟩ := o_ls hf
              refine b_topi ev25 ?_
              refine lv_istore (lv' := [(5, .int v25), (6, .int v16), (4, .ref (ad12 0)), (1, .int x1), (2, .int x2), (3, .int x3)]) hx hb dX3_then_67 hl (by decide) rfl (fun ls hl => ?_)
              obtain ⟨v26, ev26, hf⟩ := o_ls hf
              refine lv_iinc (v := v26) (lv' := [(6, .int v26), (5, .int v25), (4, .ref (ad12 0)), (1, .int x1), (2, .int x2), (3, .int x3)]) hx hb dX3_then_69 hl (k := 1) rfl ev26 (by decide) rfl (fun ls hl => ?_)
              refine lv_goto (tgt := 46) hx hb dX3_then_72 (by decide) ?_
              exact ih14 _ _ _ _ _ _ (b_perms hW (b_ord [1, 0] 2 rfl rfl rfl)) (lv_sub hl [0, 1, 2, 3, 4, 5] rfl) hf
        exact L14 _ _ _ _ _ _ _ hW (lv_sub hl [0, 1, 2, 4, 5, 6] rfl) hf
      · have hf := o_t hf c10
        refine lv_aload_n hx hb dX3_then_27 rfl (lv_at hl 0 rfl) ?_
        refine lv_bipush (v := (-2)) hx hb dX3_then_28 (by decide) ?_
        obtain ⟨r27, M28, hc28, hf⟩ := o_b2s hf
        have hp28 : List.Perm [mW g adM kM (o_a tQ) M, oM g tQ] ([mW g adM kM (o_a tQ) M] ++ [oM g tQ]) := b_perm [0] [1] 2 rfl rfl rfl rfl
        refine b_call0 ⟨rfl, rfl⟩ (va_runV (As := [.int (-2)]) (rest := []) ⟨hx, hb, hml, hown, hts⟩ (m_X3_refuse l D g H.size adM kM (o_a tQ) M (-2) r27 M28 hc28) (cwV 1 hts (lw_V q1572 q1574 qs33 q79 q1575) rfl rfl rfl (by decide +kernel) ⟨Nat.le_of_ble_eq_true rfl, Nat.le_of_ble_eq_true rfl⟩) (b_preV (pp := 0) (q := 0) hW hp28 rfl mW_0 rfl) rfl rfl hl.1 rfl (lv_room (Nat.le_of_ble_eq_true rfl)) dX3_then_30 ⟨o_q2 hq0.1, o_q2 hq0.2⟩) hW hp28 (fun _ _ H locs hW => ?_)
        have hW : bW D g A s H locs [mW g adM kM (o_a tQ) M28, oM g tQ] := hW
        refine W.widen (k := o_k 45 tQ) (n := o_k 842 tQ) (o_q3 hq0.1) (o_q3 hq0.2) ?_
        cases hf
        exact b_iret hx hb hr hlk hE hW tQ rfl rfl rfl dX3_then_33
def f_X3_writtenBy (fu : Nat) (M : BC) (To : Option BC) (x1 : Int32) (x2 : Int32) : Option (Int32 × Option BC) :=
 o_b1 (f_X3_fresh fu M To) fun (T1 : BC) =>
 o_b2 (f_X3_writes fu T1 x2) fun (r4 : Int32) (Q5 : BC) =>
 o_b2 (f_X3_joyIn fu Q5 x1 (-1)) fun (r6 : Int32) (Q7 : BC) =>
 some (r6, (some Q7))
abbrev rm_X3_writtenBy (tQ : Option ((Nat → Nat) × BC)) : Room := { frames := 6, cells := o_k 45 tQ, slots := o_k 842 tQ, locals := 143 }
set_option maxHeartbeats 4000000 in
set_option maxRecDepth 100000 in
theorem m_X3_writtenBy (l : Launch) (D : va_G) (g : Nat → ClassId) (sz : Nat) (adM : Nat → Nat) (kM : Option Nat) (tQ : Option ((Nat → Nat) × BC)) (fu : Nat) (M : BC) (x1 : Int32) (x2 : Int32) (rO : Int32) (TO : Option BC) (hf : f_X3_writtenBy fu M (tQ.map Prod.snd) x1 x2 = some (rO, TO)) : bMet (S := Option ((Nat → Nat) × BC)) l yX3_writtenBy (ws_ yX3_writtenBy cX3_writtenBy 4 (some .int)) (rm_X3_writtenBy tQ) D g sz [.ref (adM 0), .int x1, .int x2] [mW g adM kM (o_a tQ) M, oM g tQ] (fun tQ1 => tQ1.map Prod.snd = TO) (fun _ => some (.int rO)) (fun tQ1 => [mW g adM kM (o_a tQ1) M, oM g tQ1]) := by
  refine b_met (by decide) (Nat.le_of_ble_eq_true rfl) ?_
  intro p e s m args below meth c A Q ls hx hb hml hr hlk hown hname hts hE hl hW
  revert hW; generalize s.heap = H; intro hW
  have hl : lv_has ls 4 [(0, .ref (adM 0)), (1, .int x1), (2, .int x2)] := hl
  rw [f_X3_writtenBy] at hf
  have hq0 : 0 + o_k 45 tQ ≤ o_k 45 tQ ∧ 0 + o_k 842 tQ ≤ o_k 842 tQ := ⟨Nat.le_of_eq (Nat.zero_add _), Nat.le_of_eq (Nat.zero_add _)⟩
  refine lv_aload_n hx hb dX3_writtenBy_0 rfl (lv_at hl 0 rfl) ?_
  obtain ⟨T1, hc2, hf⟩ := o_b1s hf
  have hp2 : List.Perm [mW g adM kM (o_a tQ) M, oM g tQ] ([mW g adM kM (o_a tQ) M, oM g tQ] ++ []) := b_perm [0, 1] [] 2 rfl rfl rfl rfl
  refine b_call (va_runV (As := []) (rest := []) ⟨hx, hb, hml, hown, hts⟩ (m_X3_fresh l D g H.size adM kM tQ fu M T1 hc2) (cwV 0 hts (lw_V q1701 q1703 qs45 q79 q1704) rfl rfl rfl (by decide +kernel) ⟨Nat.le_of_ble_eq_true rfl, Nat.le_of_ble_eq_true rfl⟩) (b_preV (pp := 0) (q := 0) hW hp2 rfl mW_0 rfl) rfl rfl hl.1 rfl (lv_room (Nat.le_of_ble_eq_true rfl)) dX3_writtenBy_1 ⟨hq0.1, hq0.2⟩) hW hp2 (fun ad2 _ H locs hW => ?_)
  refine W.cs (cells' := (0 + o_k 45 tQ)) (slots' := (0 + o_k 842 tQ)) rfl rfl ?_
  have hq3 : (0 + o_k 45 tQ) + o_k 45 (some (ad2, T1)) ≤ o_k 45 tQ ∧ (0 + o_k 842 tQ) + o_k 842 (some (ad2, T1)) ≤ o_k 842 tQ := hq0
  have hW : bW D g A s H locs [mW g adM kM (some (ad2 0)) M, mW g ad2 none none T1] := hW
  refine lv_astore_n (lv' := [(3, .ref (ad2 0)), (0, .ref (adM 0)), (1, .int x1), (2, .int x2)]) hx hb dX3_writtenBy_4 rfl hl (by decide) rfl (fun ls hl => ?_)
  refine lv_aload_n hx hb dX3_writtenBy_5 rfl (lv_at hl 0 rfl) ?_
  refine lv_iload_n hx hb dX3_writtenBy_6 rfl (lv_at hl 3 rfl) ?_
  obtain ⟨r4, Q5, hc5, hf⟩ := o_b2s hf
  have hp5 : List.Perm [mW g adM kM (some (ad2 0)) M, mW g ad2 none none T1] ([mW g ad2 none none T1] ++ [mW g adM kM (some (ad2 0)) M]) := b_perm [1] [0] 2 rfl rfl rfl rfl
  refine b_call0 ⟨rfl, rfl⟩ (va_runV (As := [.int x2]) (rest := []) ⟨hx, hb, hml, hown, hts⟩ (m_X3_writes l D g H.size ad2 none none fu T1 x2 r4 Q5 hc5) (cwV 1 hts (lw_V q1668 q1670 qs43 q79 q1671) rfl rfl rfl (by decide +kernel) ⟨Nat.le_of_ble_eq_true rfl, Nat.le_of_ble_eq_true rfl⟩) (b_preV (pp := 1) (q := 0) hW hp5 rfl mW_0 rfl) rfl rfl hl.1 rfl (lv_room (Nat.le_of_ble_eq_true rfl)) dX3_writtenBy_7 ⟨o_q2 hq3.1, o_q2 hq3.2⟩) hW hp5 (fun _ _ H locs hW => ?_)
  have hW : bW D g A s H locs [mW g ad2 none none Q5, mW g adM kM (some (ad2 0)) M] := hW
  refine lv_pop hx hb dX3_writtenBy_10 rfl ?_
  refine lv_aload_n hx hb dX3_writtenBy_11 rfl (lv_at hl 0 rfl) ?_
  refine lv_iload_n hx hb dX3_writtenBy_12 rfl (lv_at hl 2 rfl) ?_
  refine lv_iconst (v := (-1)) hx hb dX3_writtenBy_13 (by decide) ?_
  obtain ⟨r6, Q7, hc7, hf⟩ := o_b2s hf
  have hp7 : List.Perm [mW g ad2 none none Q5, mW g adM kM (some (ad2 0)) M] ([mW g ad2 none none Q5] ++ [mW g adM kM (some (ad2 0)) M]) := b_perm [0] [1] 2 rfl rfl rfl rfl
  refine b_call0 ⟨rfl, rfl⟩ (va_runV (As := [.int x1, .int (-1)]) (rest := []) ⟨hx, hb, hml, hown, hts⟩ (m_X3_joyIn l D g H.size ad2 none none fu Q5 x1 (-1) r6 Q7 hc7) (cwV 2 hts (lw_V q1922 q1924 qs68 q79 q1925) rfl rfl rfl (by decide +kernel) ⟨Nat.le_of_ble_eq_true rfl, Nat.le_of_ble_eq_true rfl⟩) (b_preV (pp := 0) (q := 0) hW hp7 rfl mW_0 rfl) rfl rfl hl.1 rfl (lv_room (Nat.le_of_ble_eq_true rfl)) dX3_writtenBy_14 ⟨o_q2 hq3.1, o_q2 hq3.2⟩) hW hp7 (fun _ _ H locs hW => ?_)
  have hW : bW D g A s H locs [mW g ad2 none none Q7, mW g adM kM (some (ad2 0)) M] := hW
  refine W.widen (k := o_k 45 tQ) (n := o_k 842 tQ) (o_q3 hq3.1) (o_q3 hq3.2) ?_
  cases hf
  exact b_iret hx hb hr hlk hE (b_perms hW (b_ord [1, 0] 2 rfl rfl rfl)) (some (ad2, Q7)) rfl rfl rfl dX3_writtenBy_17
def f_X3_bestBook_L22 (x1 : Int32) (x2 : Int32) (fu : Nat) (v2 : Int32) (v3 : Int32) (M4 : BC) (q5 : Option BC) (rec1 : (Int32 × Int32 × BC × Option BC) → Option (Int32 × BC × Option BC)) (rec7 : (Int32 × Int32) → Option (Int32 × BC × Option BC)) : Int32 × Int32 → Option (Int32 × BC × Option BC)
  | (v8, v9) =>
    (if (M4.1 0 1) ≤ v9 then
     (if x2 < v8 then
     o_lt (v3 + 1) fun (v12 : Int32) =>
     rec1 (v2, v12, M4, q5)
     else
     o_b2 (f_X3_writtenBy fu M4 q5 x1 v3) fun (r13 : Int32) (TO14 : Option BC) =>
     o_op TO14 none fun (T17 : BC) =>
     (if v2 = (-1) then
     o_lt (bI M4 0 (upd (M4.1 0) 13 r13)) fun (M20 : BC) =>
     o_lt (v3 + 1) fun (v21 : Int32) =>
     rec1 (v3, v21, M20, (some T17))
     else
     (if r13 ≤ (M4.1 0 13) then
     o_lt (v3 + 1) fun (v23 : Int32) =>
     rec1 (v2, v23, M4, (some T17))
     else
     o_lt (bI M4 0 (upd (M4.1 0) 13 r13)) fun (M24 : BC) =>
     o_lt (v3 + 1) fun (v25 : Int32) =>
     rec1 (v3, v25, M24, (some T17)))))
     else
     o_lt (v8 + ((v3 >>> (v9 &&& 31)) &&& 1)) fun (v26 : Int32) =>
     o_lt (v9 + 1) fun (v27 : Int32) =>
     rec7 (v26, v27))
def f_X3_bestBook_L5 (x1 : Int32) (x2 : Int32) (fu : Nat) (rec1 : (Int32 × Int32 × BC × Option BC) → Option (Int32 × BC × Option BC)) : Int32 × Int32 × BC × Option BC → Option (Int32 × BC × Option BC)
  | (v2, v3, M4, q5) =>
    (if (1 <<< ((M4.1 0 1) &&& 31)) ≤ v3 then
     some (v2, M4, q5)
     else
     o_lp (f_X3_bestBook_L22 x1 x2 fu v2 v3 M4 q5 rec1) fu (0, 0))
def f_X3_bestBook (fu : Nat) (M : BC) (To : Option BC) (x1 : Int32) (x2 : Int32) : Option (Int32 × BC × Option BC) :=
 o_lp (f_X3_bestBook_L5 x1 x2 fu) fu ((-1), 0, M, To)
abbrev rm_X3_bestBook (tQ : Option ((Nat → Nat) × BC)) : Room := { frames := 7, cells := o_k 45 tQ, slots := o_k 842 tQ, locals := 166 }
set_option maxHeartbeats 4000000 in
set_option maxRecDepth 100000 in
theorem m_X3_bestBook (l : Launch) (D : va_G) (g : Nat → ClassId) (sz : Nat) (adM : Nat → Nat) (kM : Option Nat) (tQ : Option ((Nat → Nat) × BC)) (fu : Nat) (M : BC) (x1 : Int32) (x2 : Int32) (rO : Int32) (MO : BC) (TO : Option BC) (hf : f_X3_bestBook fu M (tQ.map Prod.snd) x1 x2 = some (rO, MO, TO)) : bMet (S := Option ((Nat → Nat) × BC)) l yX3_bestBook (ws_ yX3_bestBook cX3_bestBook 7 (some .int)) (rm_X3_bestBook tQ) D g sz [.ref (adM 0), .int x1, .int x2] [mW g adM kM (o_a tQ) M, oM g tQ] (fun tQ1 => tQ1.map Prod.snd = TO) (fun _ => some (.int rO)) (fun tQ1 => [mW g adM kM (o_a tQ1) MO, oM g tQ1]) := by
  refine b_met (by decide) (Nat.le_of_ble_eq_true rfl) ?_
  intro p e s m args below meth c A Q ls hx hb hml hr hlk hown hname hts hE hl hW
  revert hW; generalize s.heap = H; intro hW
  have hl : lv_has ls 7 [(0, .ref (adM 0)), (1, .int x1), (2, .int x2)] := hl
  rw [f_X3_bestBook] at hf
  have hq0 : 0 + o_k 45 tQ ≤ o_k 45 tQ ∧ 0 + o_k 842 tQ ≤ o_k 842 tQ := ⟨Nat.le_of_eq (Nat.zero_add _), Nat.le_of_eq (Nat.zero_add _)⟩
  refine lv_iconst (v := (-1)) hx hb dX3_bestBook_0 (by decide) ?_
  refine lv_istore_n (lv' := [(3, .int (-1)), (0, .ref (adM 0)), (1, .int x1), (2, .int x2)]) hx hb dX3_bestBook_1 rfl hl (by decide) rfl (fun ls hl => ?_)
  refine lv_iconst (v := 0) hx hb dX3_bestBook_2 (by decide) ?_
  refine lv_istore (lv' := [(4, .int 0), (3, .int (-1)), (0, .ref (adM 0)), (1, .int x1), (2, .int x2)]) hx hb dX3_bestBook_3 hl (by decide) rfl (fun ls hl => ?_)
  obtain ⟨stp1, est1, hf⟩ := o_ln hf
  have L1 : ∀ (n : Nat) (v2 : Int32) (v3 : Int32) (M4 : BC) (tq5 : Option ((Nat → Nat) × BC)) (cq5 sq5 : Nat) (hq5 : cq5 + o_k 45 tq5 ≤ o_k 45 tQ ∧ sq5 + o_k 842 tq5 ≤ o_k 842 tQ) (H : Heap) (locs : List Loc) (ls : Array Slot), bW D g A s H locs [mW g adM kM (o_a tq5) M4, oM g tq5] → lv_has ls 7 [(4, .int v3), (3, .int v2), (0, .ref (adM 0)), (1, .int x1), (2, .int x2)] → o_lp stp1 n (v2, v3, M4, (tq5.map Prod.snd)) = some (rO, MO, TO) → W p l e (rm_X3_bestBook tQ) s m args below meth c H locs cq5 sq5 Q (F0 m 5 ls []) := by
    intro n1
    induction n1 with
    | zero => intro v2 v3 M4 tq5 cq5 sq5 hq5 H locs ls hW hl hf; exact (o_lz hf).elim
    | succ n1 ih1 =>
      intro v2 v3 M4 tq5 cq5 sq5 hq5 H locs ls hW hl hf
      have hf := o_lu est1 hf
      rw [f_X3_bestBook_L5] at hf
      refine lv_iload hx hb dX3_bestBook_5 (lv_at hl 0 rfl) ?_
      refine lv_iconst (v := 1) hx hb dX3_bestBook_7 (by decide) ?_
      refine lv_aload_n hx hb dX3_bestBook_8 rfl (lv_at hl 2 rfl) ?_
      refine b_get hx hb hts in_X3 hown hW 0 0 3 9 rfl mW_0 rfl (by decide) ⟨rfl, rfl, rfl⟩ (hts _ q1468) mW_g9 dX3_bestBook_9 ?_
      refine lv_ishl hx hb dX3_bestBook_12 ?_
      refine lv_icmp_ge (tgt := 93) hx hb dX3_bestBook_13 (by decide) (fun c6 => ?_) (fun c6 => ?_)
      · have hf := o_t hf c6
        refine lv_iload_n hx hb dX3_bestBook_93 rfl (lv_at hl 1 rfl) ?_
        refine W.widen (k := o_k 45 tQ) (n := o_k 842 tQ) (o_q3 hq5.1) (o_q3 hq5.2) ?_
        cases hf
        exact b_iret hx hb hr hlk hE hW tq5 rfl rfl rfl dX3_bestBook_94
      · have hf := o_f hf c6
        refine lv_iconst (v := 0) hx hb dX3_bestBook_16 (by decide) ?_
        refine lv_istore (lv' := [(5, .int 0), (4, .int v3), (3, .int v2), (0, .ref (adM 0)), (1, .int x1), (2, .int x2)]) hx hb dX3_bestBook_17 hl (by decide) rfl (fun ls hl => ?_)
        refine lv_iconst (v := 0) hx hb dX3_bestBook_19 (by decide) ?_
        refine lv_istore (lv' := [(6, .int 0), (5, .int 0), (4, .int v3), (3, .int v2), (0, .ref (adM 0)), (1, .int x1), (2, .int x2)]) hx hb dX3_bestBook_20 hl (by decide) rfl (fun ls hl => ?_)
        obtain ⟨stp7, est7, hf⟩ := o_ln hf
        have L7 : ∀ (n : Nat) (v8 : Int32) (v9 : Int32) (H : Heap) (locs : List Loc) (ls : Array Slot), bW D g A s H locs [mW g adM kM (o_a tq5) M4, oM g tq5] → lv_has ls 7 [(6, .int v9), (5, .int v8), (4, .int v3), (3, .int v2), (0, .ref (adM 0)), (1, .int x1), (2, .int x2)] → o_lp stp7 n (v8, v9) = some (rO, MO, TO) → W p l e (rm_X3_bestBook tQ) s m args below meth c H locs cq5 sq5 Q (F0 m 22 ls []) := by
          intro n7
          induction n7 with
          | zero => intro v8 v9 H locs ls hW hl hf; exact (o_lz hf).elim
          | succ n7 ih7 =>
            intro v8 v9 H locs ls hW hl hf
            have hf := o_lu est7 hf
            rw [f_X3_bestBook_L22] at hf
            refine lv_iload hx hb dX3_bestBook_22 (lv_at hl 0 rfl) ?_
            refine lv_aload_n hx hb dX3_bestBook_24 rfl (lv_at hl 4 rfl) ?_
            refine b_get hx hb hts in_X3 hown hW 0 0 3 9 rfl mW_0 rfl (by decide) ⟨rfl, rfl, rfl⟩ (hts _ q1468) mW_g9 dX3_bestBook_25 ?_
            refine lv_icmp_ge (tgt := 49) hx hb dX3_bestBook_28 (by decide) (fun c10 => ?_) (fun c10 => ?_)
            · have hf := o_t hf c10
              refine lv_iload hx hb dX3_bestBook_49 (lv_at hl 1 rfl) ?_
              refine lv_iload_n hx hb dX3_bestBook_51 rfl (lv_at hl 6 rfl) ?_
              refine lv_icmp_gt (tgt := 87) hx hb dX3_bestBook_52 (by decide) (fun c11 => ?_) (fun c11 => ?_)
              · have hf := o_t hf c11
                obtain ⟨v12, ev12, hf⟩ := o_ls hf
                refine lv_iinc (v := v12) (lv' := [(4, .int v12), (6, .int v9), (5, .int v8), (3, .int v2), (0, .ref (adM 0)), (1, .int x1), (2, .int x2)]) hx hb dX3_bestBook_87 hl (k := 2) rfl ev12 (by decide) rfl (fun ls hl => ?_)
                refine lv_goto (tgt := 5) hx hb dX3_bestBook_90 (by decide) ?_
                exact ih1 _ _ _ tq5 (cq5) (sq5) hq5 _ _ _ hW (lv_sub hl [0, 3, 4, 5, 6] rfl) hf
              · have hf := o_f hf c11
                refine lv_aload_n hx hb dX3_bestBook_55 rfl (lv_at hl 4 rfl) ?_
                refine lv_iload_n hx hb dX3_bestBook_56 rfl (lv_at hl 5 rfl) ?_
                refine lv_iload hx hb dX3_bestBook_57 (lv_at hl 2 rfl) ?_
                obtain ⟨r13, TO14, hc14, hf⟩ := o_b2s hf
                have hp14 : List.Perm [mW g adM kM (o_a tq5) M4, oM g tq5] ([mW g adM kM (o_a tq5) M4, oM g tq5] ++ []) := b_perm [0, 1] [] 2 rfl rfl rfl rfl
                refine b_call (va_runV (As := [.int x1, .int v3]) (rest := []) ⟨hx, hb, hml, hown, hts⟩ (m_X3_writtenBy l D g H.size adM kM tq5 fu M4 x1 v3 r13 TO14 hc14) (cwV 2 hts (lw_V q1945 q1947 qs71 q79 q1948) rfl rfl rfl (by decide +kernel) ⟨Nat.le_of_ble_eq_true rfl, Nat.le_of_ble_eq_true rfl⟩) (b_preV (pp := 0) (q := 0) hW hp14 rfl mW_0 rfl) rfl rfl hl.1 rfl (lv_room (Nat.le_of_ble_eq_true rfl)) dX3_bestBook_59 ⟨hq5.1, hq5.2⟩) hW hp14 (fun tq15 htq15 H locs hW => ?_)
                subst htq15
                refine W.cs (cells' := (cq5 + o_k 45 tq5)) (slots' := (sq5 + o_k 842 tq5)) rfl rfl ?_
                have hW : bW D g A s H locs [mW g adM kM (o_a tq15) M4, oM g tq15] := hW
                obtain ⟨ad16, T17, rfl⟩ := o_qs hf
                have hf := o_ops hf rfl
                have hq18 : (cq5 + o_k 45 tq5) + o_k 45 (some (ad16, T17)) ≤ o_k 45 tQ ∧ (sq5 + o_k 842 tq5) + o_k 842 (some (ad16, T17)) ≤ o_k 842 tQ := hq5
                have hW : bW D g A s H locs [mW g adM kM (some (ad16 0)) M4, mW g ad16 none none T17] := hW
                refine lv_istore (lv' := [(6, .int r13), (5, .int v8), (4, .int v3), (3, .int v2), (0, .ref (adM 0)), (1, .int x1), (2, .int x2)]) hx hb dX3_bestBook_62 hl (by decide) rfl (fun ls hl => ?_)
                refine lv_iload_n hx hb dX3_bestBook_64 rfl (lv_at hl 3 rfl) ?_
                refine lv_iconst (v := (-1)) hx hb dX3_bestBook_65 (by decide) ?_
                refine lv_icmp_eq (tgt := 78) hx hb dX3_bestBook_66 (by decide) (fun c19 => ?_) (fun c19 => ?_)
                · have hf := o_t hf c19
                  refine lv_iload hx hb dX3_bestBook_78 (lv_at hl 2 rfl) ?_
                  refine lv_istore_n (lv' := [(3, .int v3), (6, .int r13), (5, .int v8), (4, .int v3), (0, .ref (adM 0)), (1, .int x1), (2, .int x2)]) hx hb dX3_bestBook_80 rfl hl (by decide) rfl (fun ls hl => ?_)
                  refine lv_aload_n hx hb dX3_bestBook_81 rfl (lv_at hl 4 rfl) ?_
                  refine lv_iload hx hb dX3_bestBook_82 (lv_at hl 1 rfl) ?_
                  obtain ⟨M20, eM20, hf⟩ := o_ls hf
                  refine b_put hx hb hts in_X3 tyX3 tyX3_ok nmX3 hown hW 0 0 3 32 rfl mW_0 (mW_p32 eM20) rfl rfl (by decide) ⟨rfl, rfl, rfl⟩ (hts _ q1491) rfl (ty := .int) rfl rfl rfl (by rw [mW_l]; decide) dX3_bestBook_84 (fun H locs hW => ?_)
                  have hW : bW D g A s H locs [mW g adM kM (some (ad16 0)) M20, mW g ad16 none none T17] := hW
                  obtain ⟨v21, ev21, hf⟩ := o_ls hf
                  refine lv_iinc (v := v21) (lv' := [(4, .int v21), (3, .int v3), (6, .int r13), (5, .int v8), (0, .ref (adM 0)), (1, .int x1), (2, .int x2)]) hx hb dX3_bestBook_87 hl (k := 3) rfl ev21 (by decide) rfl (fun ls hl => ?_)
                  refine lv_goto (tgt := 5) hx hb dX3_bestBook_90 (by decide) ?_
                  exact ih1 _ _ _ (some (ad16, T17)) ((cq5 + o_k 45 tq5)) ((sq5 + o_k 842 tq5)) hq18 _ _ _ hW (lv_sub hl [0, 1, 4, 5, 6] rfl) hf
                · have hf := o_f hf c19
                  refine lv_iload hx hb dX3_bestBook_69 (lv_at hl 0 rfl) ?_
                  refine lv_aload_n hx hb dX3_bestBook_71 rfl (lv_at hl 4 rfl) ?_
                  refine b_get hx hb hts in_X3 hown hW 0 0 3 32 rfl mW_0 rfl (by decide) ⟨rfl, rfl, rfl⟩ (hts _ q1491) mW_g32 dX3_bestBook_72 ?_
                  refine lv_icmp_le (tgt := 87) hx hb dX3_bestBook_75 (by decide) (fun c22 => ?_) (fun c22 => ?_)
                  · have hf := o_t hf c22
                    obtain ⟨v23, ev23, hf⟩ := o_ls hf
                    refine lv_iinc (v := v23) (lv' := [(4, .int v23), (6, .int r13), (5, .int v8), (3, .int v2), (0, .ref (adM 0)), (1, .int x1), (2, .int x2)]) hx hb dX3_bestBook_87 hl (k := 2) rfl ev23 (by decide) rfl (fun ls hl => ?_)
                    refine lv_goto (tgt := 5) hx hb dX3_bestBook_90 (by decide) ?_
                    exact ih1 _ _ _ (some (ad16, T17)) ((cq5 + o_k 45 tq5)) ((sq5 + o_k 842 tq5)) hq18 _ _ _ hW (lv_sub hl [0, 3, 4, 5, 6] rfl) hf
                  · have hf := o_f hf c22
                    refine lv_iload hx hb dX3_bestBook_78 (lv_at hl 2 rfl) ?_
                    refine lv_istore_n (lv' := [(3, .int v3), (6, .int r13), (5, .int v8), (4, .int v3), (0, .ref (adM 0)), (1, .int x1), (2, .int x2)]) hx hb dX3_bestBook_80 rfl hl (by decide) rfl (fun ls hl => ?_)
                    refine lv_aload_n hx hb dX3_bestBook_81 rfl (lv_at hl 4 rfl) ?_
                    refine lv_iload hx hb dX3_bestBook_82 (lv_at hl 1 rfl) ?_
                    obtain ⟨M24, eM24, hf⟩ := o_ls hf
                    refine b_put hx hb hts in_X3 tyX3 tyX3_ok nmX3 hown hW 0 0 3 32 rfl mW_0 (mW_p32 eM24) rfl rfl (by decide) ⟨rfl, rfl, rfl⟩ (hts _ q1491) rfl (ty := .int) rfl rfl rfl (by rw [mW_l]; decide) dX3_bestBook_84 (fun H locs hW => ?_)
                    have hW : bW D g A s H locs [mW g adM kM (some (ad16 0)) M24, mW g ad16 none none T17] := hW
                    obtain ⟨v25, ev25, hf⟩ := o_ls hf
                    refine lv_iinc (v := v25) (lv' := [(4, .int v25), (3, .int v3), (6, .int r13), (5, .int v8), (0, .ref (adM 0)), (1, .int x1), (2, .int x2)]) hx hb dX3_bestBook_87 hl (k := 3) rfl ev25 (by decide) rfl (fun ls hl => ?_)
                    refine lv_goto (tgt := 5) hx hb dX3_bestBook_90 (by decide) ?_
                    exact ih1 _ _ _ (some (ad16, T17)) ((cq5 + o_k 45 tq5)) ((sq5 + o_k 842 tq5)) hq18 _ _ _ hW (lv_sub hl [0, 1, 4, 5, 6] rfl) hf
            · have hf := o_f hf c10
              refine lv_iload hx hb dX3_bestBook_31 (lv_at hl 1 rfl) ?_
              refine lv_iload hx hb dX3_bestBook_33 (lv_at hl 2 rfl) ?_
              refine lv_iload hx hb dX3_bestBook_35 (lv_at hl 0 rfl) ?_
              refine lv_ishr hx hb dX3_bestBook_37 ?_
              refine lv_iconst (v := 1) hx hb dX3_bestBook_38 (by decide) ?_
              refine lv_iand hx hb dX3_bestBook_39 ?_
              refine lv_iadd hx hb dX3_bestBook_40 ?_
              obtain ⟨v26, ev26, hf⟩ := o_ls hf
              refine b_topi ev26 ?_
              refine lv_istore (lv' := [(5, .int v26), (6, .int v9), (4, .int v3), (3, .int v2), (0, .ref (adM 0)), (1, .int x1), (2, .int x2)]) hx hb dX3_bestBook_41 hl (by decide) rfl (fun ls hl => ?_)
              obtain ⟨v27, ev27, hf⟩ := o_ls hf
              refine lv_iinc (v := v27) (lv' := [(6, .int v27), (5, .int v26), (4, .int v3), (3, .int v2), (0, .ref (adM 0)), (1, .int x1), (2, .int x2)]) hx hb dX3_bestBook_43 hl (k := 1) rfl ev27 (by decide) rfl (fun ls hl => ?_)
              refine lv_goto (tgt := 22) hx hb dX3_bestBook_46 (by decide) ?_
              exact ih7 _ _ _ _ _ hW (lv_sub hl [0, 1, 2, 3, 4, 5, 6] rfl) hf
        exact L7 _ _ _ _ _ _ hW (lv_sub hl [0, 1, 2, 3, 4, 5, 6] rfl) hf
  exact L1 _ _ _ _ tQ (0) (0) hq0 _ _ _ hW (lv_sub hl [0, 1, 2, 3, 4] rfl) hf
def f_X3_book (fu : Nat) (M : BC) (To : Option BC) (x1 : Int32) (x2 : Int32) : Option (Int32 × BC × Option BC) :=
 o_b1 (f_X3_isYears x1) fun (r1 : Int32) =>
 (if r1 = 0 then
 o_b2 (f_X3_refuse M (-2)) fun (r3 : Int32) (M4 : BC) =>
 some (r3, M4, To)
 else
 o_b1 (f_X3_in x2.toInt64 0 6) fun (r5 : Int32) =>
 (if r5 = 0 then
 o_b2 (f_X3_refuse M (-2)) fun (r7 : Int32) (M8 : BC) =>
 some (r7, M8, To)
 else
 o_b3 (f_X3_bestBook fu M To x1 x2) fun (r9 : Int32) (M10 : BC) (TO11 : Option BC) =>
 o_op TO11 none fun (T14 : BC) =>
 some (r9, M10, (some T14))))
abbrev rm_X3_book (tQ : Option ((Nat → Nat) × BC)) : Room := { frames := 8, cells := o_k 45 tQ, slots := o_k 842 tQ, locals := 192 }
set_option maxHeartbeats 4000000 in
set_option maxRecDepth 100000 in
theorem m_X3_book (l : Launch) (D : va_G) (g : Nat → ClassId) (sz : Nat) (adM : Nat → Nat) (kM : Option Nat) (tQ : Option ((Nat → Nat) × BC)) (fu : Nat) (M : BC) (x1 : Int32) (x2 : Int32) (rO : Int32) (MO : BC) (TO : Option BC) (hf : f_X3_book fu M (tQ.map Prod.snd) x1 x2 = some (rO, MO, TO)) : bMet (S := Option ((Nat → Nat) × BC)) l yX3_book (ws_ yX3_book cX3_book 3 (some .int)) (rm_X3_book tQ) D g sz [.ref (adM 0), .int x1, .int x2] [mW g adM kM (o_a tQ) M, oM g tQ] (fun tQ1 => tQ1.map Prod.snd = TO) (fun _ => some (.int rO)) (fun tQ1 => [mW g adM kM (o_a tQ1) MO, oM g tQ1]) := by
  refine b_met (by decide) (Nat.le_of_ble_eq_true rfl) ?_
  intro p e s m args below meth c A Q ls hx hb hml hr hlk hown hname hts hE hl hW
  revert hW; generalize s.heap = H; intro hW
  have hl : lv_has ls 3 [(0, .ref (adM 0)), (1, .int x1), (2, .int x2)] := hl
  rw [f_X3_book] at hf
  have hq0 : 0 + o_k 45 tQ ≤ o_k 45 tQ ∧ 0 + o_k 842 tQ ≤ o_k 842 tQ := ⟨Nat.le_of_eq (Nat.zero_add _), Nat.le_of_eq (Nat.zero_add _)⟩
  refine lv_iload_n hx hb dX3_book_0 rfl (lv_at hl 1 rfl) ?_
  obtain ⟨r1, hc1, hf⟩ := o_b1s hf
  have hp1 : List.Perm [mW g adM kM (o_a tQ) M, oM g tQ] ([] ++ [mW g adM kM (o_a tQ) M, oM g tQ]) := b_perm [] [0, 1] 2 rfl rfl rfl rfl
  refine b_call0 ⟨rfl, rfl⟩ (va_runS (As := [.int x1]) (rest := []) ⟨hx, hb, hml, hown, hts⟩ (m_X3_isYears l D g H.size x1 r1 hc1) (va_cwS 1 hts (lw_S q1918 q1919 q79 q1920) rfl rfl rfl (by decide +kernel) ⟨Nat.le_of_ble_eq_true rfl, Nat.le_of_ble_eq_true rfl⟩) (b_preS hW hp1) rfl rfl hl.1 rfl (lv_room (Nat.le_of_ble_eq_true rfl)) dX3_book_1 ⟨o_q2 hq0.1, o_q2 hq0.2⟩) hW hp1 (fun _ _ H locs hW => ?_)
  have hW : bW D g A s H locs [mW g adM kM (o_a tQ) M, oM g tQ] := hW
  refine lv_if_eq (tgt := 28) hx hb dX3_book_4 (by decide) (fun c2 => ?_) (fun c2 => ?_)
  · have hf := o_t hf c2
    refine lv_aload_n hx hb dX3_book_28 rfl (lv_at hl 0 rfl) ?_
    refine lv_bipush (v := (-2)) hx hb dX3_book_29 (by decide) ?_
    obtain ⟨r3, M4, hc4, hf⟩ := o_b2s hf
    have hp4 : List.Perm [mW g adM kM (o_a tQ) M, oM g tQ] ([mW g adM kM (o_a tQ) M] ++ [oM g tQ]) := b_perm [0] [1] 2 rfl rfl rfl rfl
    refine b_call0 ⟨rfl, rfl⟩ (va_runV (As := [.int (-2)]) (rest := []) ⟨hx, hb, hml, hown, hts⟩ (m_X3_refuse l D g H.size adM kM (o_a tQ) M (-2) r3 M4 hc4) (cwV 1 hts (lw_V q1572 q1574 qs33 q79 q1575) rfl rfl rfl (by decide +kernel) ⟨Nat.le_of_ble_eq_true rfl, Nat.le_of_ble_eq_true rfl⟩) (b_preV (pp := 0) (q := 0) hW hp4 rfl mW_0 rfl) rfl rfl hl.1 rfl (lv_room (Nat.le_of_ble_eq_true rfl)) dX3_book_31 ⟨o_q2 hq0.1, o_q2 hq0.2⟩) hW hp4 (fun _ _ H locs hW => ?_)
    have hW : bW D g A s H locs [mW g adM kM (o_a tQ) M4, oM g tQ] := hW
    refine W.widen (k := o_k 45 tQ) (n := o_k 842 tQ) (o_q3 hq0.1) (o_q3 hq0.2) ?_
    cases hf
    exact b_iret hx hb hr hlk hE hW tQ rfl rfl rfl dX3_book_34
  · have hf := o_f hf c2
    refine lv_iload_n hx hb dX3_book_7 rfl (lv_at hl 2 rfl) ?_
    refine lv_i2l hx hb dX3_book_8 rfl ?_
    refine lv_lconst (v := 0) hx hb dX3_book_9 (by decide) ?_
    refine lv_ldc2 (v := 6) hx hb hown (hts _ q1791) dX3_book_10 ?_
    obtain ⟨r5, hc5, hf⟩ := o_b1s hf
    have hp5 : List.Perm [mW g adM kM (o_a tQ) M, oM g tQ] ([] ++ [mW g adM kM (o_a tQ) M, oM g tQ]) := b_perm [] [0, 1] 2 rfl rfl rfl rfl
    refine b_call0 ⟨rfl, rfl⟩ (va_runS (As := [.long x2.toInt64, .long 0, .long 6]) (rest := []) ⟨hx, hb, hml, hown, hts⟩ (m_X3_in l D g H.size x2.toInt64 0 6 r5 hc5) (va_cwS 3 hts (lw_S q1567 q1568 q79 q1569) rfl rfl rfl (by decide +kernel) ⟨Nat.le_of_ble_eq_true rfl, Nat.le_of_ble_eq_true rfl⟩) (b_preS hW hp5) rfl rfl hl.1 rfl (lv_room (Nat.le_of_ble_eq_true rfl)) dX3_book_13 ⟨o_q2 hq0.1, o_q2 hq0.2⟩) hW hp5 (fun _ _ H locs hW => ?_)
    have hW : bW D g A s H locs [mW g adM kM (o_a tQ) M, oM g tQ] := hW
    refine lv_if_eq (tgt := 28) hx hb dX3_book_16 (by decide) (fun c6 => ?_) (fun c6 => ?_)
    · have hf := o_t hf c6
      refine lv_aload_n hx hb dX3_book_28 rfl (lv_at hl 0 rfl) ?_
      refine lv_bipush (v := (-2)) hx hb dX3_book_29 (by decide) ?_
      obtain ⟨r7, M8, hc8, hf⟩ := o_b2s hf
      have hp8 : List.Perm [mW g adM kM (o_a tQ) M, oM g tQ] ([mW g adM kM (o_a tQ) M] ++ [oM g tQ]) := b_perm [0] [1] 2 rfl rfl rfl rfl
      refine b_call0 ⟨rfl, rfl⟩ (va_runV (As := [.int (-2)]) (rest := []) ⟨hx, hb, hml, hown, hts⟩ (m_X3_refuse l D g H.size adM kM (o_a tQ) M (-2) r7 M8 hc8) (cwV 1 hts (lw_V q1572 q1574 qs33 q79 q1575) rfl rfl rfl (by decide +kernel) ⟨Nat.le_of_ble_eq_true rfl, Nat.le_of_ble_eq_true rfl⟩) (b_preV (pp := 0) (q := 0) hW hp8 rfl mW_0 rfl) rfl rfl hl.1 rfl (lv_room (Nat.le_of_ble_eq_true rfl)) dX3_book_31 ⟨o_q2 hq0.1, o_q2 hq0.2⟩) hW hp8 (fun _ _ H locs hW => ?_)
      have hW : bW D g A s H locs [mW g adM kM (o_a tQ) M8, oM g tQ] := hW
      refine W.widen (k := o_k 45 tQ) (n := o_k 842 tQ) (o_q3 hq0.1) (o_q3 hq0.2) ?_
      cases hf
      exact b_iret hx hb hr hlk hE hW tQ rfl rfl rfl dX3_book_34
    · have hf := o_f hf c6
      refine lv_aload_n hx hb dX3_book_19 rfl (lv_at hl 0 rfl) ?_
      refine lv_iload_n hx hb dX3_book_20 rfl (lv_at hl 1 rfl) ?_
      refine lv_iload_n hx hb dX3_book_21 rfl (lv_at hl 2 rfl) ?_
      obtain ⟨r9, M10, TO11, hc11, hf⟩ := o_b3s hf
      have hp11 : List.Perm [mW g adM kM (o_a tQ) M, oM g tQ] ([mW g adM kM (o_a tQ) M, oM g tQ] ++ []) := b_perm [0, 1] [] 2 rfl rfl rfl rfl
      refine b_call (va_runV (As := [.int x1, .int x2]) (rest := []) ⟨hx, hb, hml, hown, hts⟩ (m_X3_bestBook l D g H.size adM kM tQ fu M x1 x2 r9 M10 TO11 hc11) (cwV 2 hts (lw_V q1941 q1943 qs70 q79 q1944) rfl rfl rfl (by decide +kernel) ⟨Nat.le_of_ble_eq_true rfl, Nat.le_of_ble_eq_true rfl⟩) (b_preV (pp := 0) (q := 0) hW hp11 rfl mW_0 rfl) rfl rfl hl.1 rfl (lv_room (Nat.le_of_ble_eq_true rfl)) dX3_book_22 ⟨hq0.1, hq0.2⟩) hW hp11 (fun tq12 htq12 H locs hW => ?_)
      subst htq12
      refine W.cs (cells' := (0 + o_k 45 tQ)) (slots' := (0 + o_k 842 tQ)) rfl rfl ?_
      have hW : bW D g A s H locs [mW g adM kM (o_a tq12) M10, oM g tq12] := hW
      obtain ⟨ad13, T14, rfl⟩ := o_qs hf
      have hf := o_ops hf rfl
      have hq15 : (0 + o_k 45 tQ) + o_k 45 (some (ad13, T14)) ≤ o_k 45 tQ ∧ (0 + o_k 842 tQ) + o_k 842 (some (ad13, T14)) ≤ o_k 842 tQ := hq0
      have hW : bW D g A s H locs [mW g adM kM (some (ad13 0)) M10, mW g ad13 none none T14] := hW
      refine lv_goto (tgt := 34) hx hb dX3_book_25 (by decide) ?_
      refine W.widen (k := o_k 45 tQ) (n := o_k 842 tQ) (o_q3 hq15.1) (o_q3 hq15.2) ?_
      cases hf
      exact b_iret hx hb hr hlk hE hW (some (ad13, T14)) rfl rfl rfl dX3_book_34
def f_X3_written (fu : Nat) (M : BC) (To : Option BC) (x1 : Int32) (x2 : Int32) : Option (Int32 × BC × Option BC) :=
 o_b1 (f_X3_isYears x1) fun (r1 : Int32) =>
 (if r1 = 0 then
 o_b2 (f_X3_refuse M (-2)) fun (r3 : Int32) (M4 : BC) =>
 some ((-1000000) + r3, M4, To)
 else
 o_b1 (f_X3_isSet M x2) fun (r5 : Int32) =>
 (if r5 = 0 then
 o_b2 (f_X3_refuse M (-2)) fun (r7 : Int32) (M8 : BC) =>
 some ((-1000000) + r7, M8, To)
 else
 o_b2 (f_X3_writtenBy fu M To x1 x2) fun (r9 : Int32) (TO10 : Option BC) =>
 o_op TO10 none fun (T13 : BC) =>
 some (r9, M, (some T13))))
abbrev rm_X3_written (tQ : Option ((Nat → Nat) × BC)) : Room := { frames := 7, cells := o_k 45 tQ, slots := o_k 842 tQ, locals := 166 }
set_option maxHeartbeats 4000000 in
set_option maxRecDepth 100000 in
theorem m_X3_written (l : Launch) (D : va_G) (g : Nat → ClassId) (sz : Nat) (adM : Nat → Nat) (kM : Option Nat) (tQ : Option ((Nat → Nat) × BC)) (fu : Nat) (M : BC) (x1 : Int32) (x2 : Int32) (rO : Int32) (MO : BC) (TO : Option BC) (hf : f_X3_written fu M (tQ.map Prod.snd) x1 x2 = some (rO, MO, TO)) : bMet (S := Option ((Nat → Nat) × BC)) l yX3_written (ws_ yX3_written cX3_written 3 (some .int)) (rm_X3_written tQ) D g sz [.ref (adM 0), .int x1, .int x2] [mW g adM kM (o_a tQ) M, oM g tQ] (fun tQ1 => tQ1.map Prod.snd = TO) (fun _ => some (.int rO)) (fun tQ1 => [mW g adM kM (o_a tQ1) MO, oM g tQ1]) := by
  refine b_met (by decide) (Nat.le_of_ble_eq_true rfl) ?_
  intro p e s m args below meth c A Q ls hx hb hml hr hlk hown hname hts hE hl hW
  revert hW; generalize s.heap = H; intro hW
  have hl : lv_has ls 3 [(0, .ref (adM 0)), (1, .int x1), (2, .int x2)] := hl
  rw [f_X3_written] at hf
  have hq0 : 0 + o_k 45 tQ ≤ o_k 45 tQ ∧ 0 + o_k 842 tQ ≤ o_k 842 tQ := ⟨Nat.le_of_eq (Nat.zero_add _), Nat.le_of_eq (Nat.zero_add _)⟩
  refine lv_iload_n hx hb dX3_written_0 rfl (lv_at hl 1 rfl) ?_
  obtain ⟨r1, hc1, hf⟩ := o_b1s hf
  have hp1 : List.Perm [mW g adM kM (o_a tQ) M, oM g tQ] ([] ++ [mW g adM kM (o_a tQ) M, oM g tQ]) := b_perm [] [0, 1] 2 rfl rfl rfl rfl
  refine b_call0 ⟨rfl, rfl⟩ (va_runS (As := [.int x1]) (rest := []) ⟨hx, hb, hml, hown, hts⟩ (m_X3_isYears l D g H.size x1 r1 hc1) (va_cwS 1 hts (lw_S q1918 q1919 q79 q1920) rfl rfl rfl (by decide +kernel) ⟨Nat.le_of_ble_eq_true rfl, Nat.le_of_ble_eq_true rfl⟩) (b_preS hW hp1) rfl rfl hl.1 rfl (lv_room (Nat.le_of_ble_eq_true rfl)) dX3_written_1 ⟨o_q2 hq0.1, o_q2 hq0.2⟩) hW hp1 (fun _ _ H locs hW => ?_)
  have hW : bW D g A s H locs [mW g adM kM (o_a tQ) M, oM g tQ] := hW
  refine lv_if_eq (tgt := 24) hx hb dX3_written_4 (by decide) (fun c2 => ?_) (fun c2 => ?_)
  · have hf := o_t hf c2
    refine lv_ldc (v := (-1000000)) hx hb hown (hts _ q1801) dX3_written_24 ?_
    refine lv_aload_n hx hb dX3_written_26 rfl (lv_at hl 0 rfl) ?_
    refine lv_bipush (v := (-2)) hx hb dX3_written_27 (by decide) ?_
    obtain ⟨r3, M4, hc4, hf⟩ := o_b2s hf
    have hp4 : List.Perm [mW g adM kM (o_a tQ) M, oM g tQ] ([mW g adM kM (o_a tQ) M] ++ [oM g tQ]) := b_perm [0] [1] 2 rfl rfl rfl rfl
    refine b_call0 ⟨rfl, rfl⟩ (va_runV (As := [.int (-2)]) (rest := [.int (-1000000)]) ⟨hx, hb, hml, hown, hts⟩ (m_X3_refuse l D g H.size adM kM (o_a tQ) M (-2) r3 M4 hc4) (cwV 1 hts (lw_V q1572 q1574 qs33 q79 q1575) rfl rfl rfl (by decide +kernel) ⟨Nat.le_of_ble_eq_true rfl, Nat.le_of_ble_eq_true rfl⟩) (b_preV (pp := 0) (q := 0) hW hp4 rfl mW_0 rfl) rfl rfl hl.1 rfl (lv_room (Nat.le_of_ble_eq_true rfl)) dX3_written_29 ⟨o_q2 hq0.1, o_q2 hq0.2⟩) hW hp4 (fun _ _ H locs hW => ?_)
    have hW : bW D g A s H locs [mW g adM kM (o_a tQ) M4, oM g tQ] := hW
    refine lv_iadd hx hb dX3_written_32 ?_
    refine W.widen (k := o_k 45 tQ) (n := o_k 842 tQ) (o_q3 hq0.1) (o_q3 hq0.2) ?_
    cases hf
    exact b_iret hx hb hr hlk hE hW tQ rfl rfl rfl dX3_written_33
  · have hf := o_f hf c2
    refine lv_aload_n hx hb dX3_written_7 rfl (lv_at hl 0 rfl) ?_
    refine lv_iload_n hx hb dX3_written_8 rfl (lv_at hl 2 rfl) ?_
    obtain ⟨r5, hc5, hf⟩ := o_b1s hf
    have hp5 : List.Perm [mW g adM kM (o_a tQ) M, oM g tQ] ([mW g adM kM (o_a tQ) M] ++ [oM g tQ]) := b_perm [0] [1] 2 rfl rfl rfl rfl
    refine b_call0 ⟨rfl, rfl⟩ (va_runV (As := [.int x2]) (rest := []) ⟨hx, hb, hml, hown, hts⟩ (m_X3_isSet l D g H.size adM kM (o_a tQ) M x2 r5 hc5) (cwV 1 hts (lw_V q1664 q1666 qs42 q79 q1667) rfl rfl rfl (by decide +kernel) ⟨Nat.le_of_ble_eq_true rfl, Nat.le_of_ble_eq_true rfl⟩) (b_preV (pp := 0) (q := 0) hW hp5 rfl mW_0 rfl) rfl rfl hl.1 rfl (lv_room (Nat.le_of_ble_eq_true rfl)) dX3_written_9 ⟨o_q2 hq0.1, o_q2 hq0.2⟩) hW hp5 (fun _ _ H locs hW => ?_)
    have hW : bW D g A s H locs [mW g adM kM (o_a tQ) M, oM g tQ] := hW
    refine lv_if_eq (tgt := 24) hx hb dX3_written_12 (by decide) (fun c6 => ?_) (fun c6 => ?_)
    · have hf := o_t hf c6
      refine lv_ldc (v := (-1000000)) hx hb hown (hts _ q1801) dX3_written_24 ?_
      refine lv_aload_n hx hb dX3_written_26 rfl (lv_at hl 0 rfl) ?_
      refine lv_bipush (v := (-2)) hx hb dX3_written_27 (by decide) ?_
      obtain ⟨r7, M8, hc8, hf⟩ := o_b2s hf
      have hp8 : List.Perm [mW g adM kM (o_a tQ) M, oM g tQ] ([mW g adM kM (o_a tQ) M] ++ [oM g tQ]) := b_perm [0] [1] 2 rfl rfl rfl rfl
      refine b_call0 ⟨rfl, rfl⟩ (va_runV (As := [.int (-2)]) (rest := [.int (-1000000)]) ⟨hx, hb, hml, hown, hts⟩ (m_X3_refuse l D g H.size adM kM (o_a tQ) M (-2) r7 M8 hc8) (cwV 1 hts (lw_V q1572 q1574 qs33 q79 q1575) rfl rfl rfl (by decide +kernel) ⟨Nat.le_of_ble_eq_true rfl, Nat.le_of_ble_eq_true rfl⟩) (b_preV (pp := 0) (q := 0) hW hp8 rfl mW_0 rfl) rfl rfl hl.1 rfl (lv_room (Nat.le_of_ble_eq_true rfl)) dX3_written_29 ⟨o_q2 hq0.1, o_q2 hq0.2⟩) hW hp8 (fun _ _ H locs hW => ?_)
      have hW : bW D g A s H locs [mW g adM kM (o_a tQ) M8, oM g tQ] := hW
      refine lv_iadd hx hb dX3_written_32 ?_
      refine W.widen (k := o_k 45 tQ) (n := o_k 842 tQ) (o_q3 hq0.1) (o_q3 hq0.2) ?_
      cases hf
      exact b_iret hx hb hr hlk hE hW tQ rfl rfl rfl dX3_written_33
    · have hf := o_f hf c6
      refine lv_aload_n hx hb dX3_written_15 rfl (lv_at hl 0 rfl) ?_
      refine lv_iload_n hx hb dX3_written_16 rfl (lv_at hl 1 rfl) ?_
      refine lv_iload_n hx hb dX3_written_17 rfl (lv_at hl 2 rfl) ?_
      obtain ⟨r9, TO10, hc10, hf⟩ := o_b2s hf
      have hp10 : List.Perm [mW g adM kM (o_a tQ) M, oM g tQ] ([mW g adM kM (o_a tQ) M, oM g tQ] ++ []) := b_perm [0, 1] [] 2 rfl rfl rfl rfl
      refine b_call (va_runV (As := [.int x1, .int x2]) (rest := []) ⟨hx, hb, hml, hown, hts⟩ (m_X3_writtenBy l D g H.size adM kM tQ fu M x1 x2 r9 TO10 hc10) (cwV 2 hts (lw_V q1945 q1947 qs71 q79 q1948) rfl rfl rfl (by decide +kernel) ⟨Nat.le_of_ble_eq_true rfl, Nat.le_of_ble_eq_true rfl⟩) (b_preV (pp := 0) (q := 0) hW hp10 rfl mW_0 rfl) rfl rfl hl.1 rfl (lv_room (Nat.le_of_ble_eq_true rfl)) dX3_written_18 ⟨hq0.1, hq0.2⟩) hW hp10 (fun tq11 htq11 H locs hW => ?_)
      subst htq11
      refine W.cs (cells' := (0 + o_k 45 tQ)) (slots' := (0 + o_k 842 tQ)) rfl rfl ?_
      have hW : bW D g A s H locs [mW g adM kM (o_a tq11) M, oM g tq11] := hW
      obtain ⟨ad12, T13, rfl⟩ := o_qs hf
      have hf := o_ops hf rfl
      have hq14 : (0 + o_k 45 tQ) + o_k 45 (some (ad12, T13)) ≤ o_k 45 tQ ∧ (0 + o_k 842 tQ) + o_k 842 (some (ad12, T13)) ≤ o_k 842 tQ := hq0
      have hW : bW D g A s H locs [mW g adM kM (some (ad12 0)) M, mW g ad12 none none T13] := hW
      refine lv_goto (tgt := 33) hx hb dX3_written_21 (by decide) ?_
      refine W.widen (k := o_k 45 tQ) (n := o_k 842 tQ) (o_q3 hq14.1) (o_q3 hq14.2) ?_
      cases hf
      exact b_iret hx hb hr hlk hE hW (some (ad12, T13)) rfl rfl rfl dX3_written_33
def f_X3_many_L36 (x1 : Int32) (fu : Nat) (v10 : Int32) (rec18 : (Int32 × BC × Option BC) → Option (Int32 × BC × Option BC)) : Int32 × BC × Option BC → Option (Int32 × BC × Option BC)
  | (v19, M20, q21) =>
    (if (M20.1 0 13) = v10 then
     some (v19, M20, q21)
     else
     o_lt (v19 + 1) fun (v23 : Int32) =>
     o_b3 (f_X3_bestBook fu M20 q21 x1 v23) fun (r24 : Int32) (M25 : BC) (TO26 : Option BC) =>
     o_op TO26 none fun (T29 : BC) =>
     rec18 (v23, M25, (some T29)))
def f_X3_many (fu : Nat) (M : BC) (To : Option BC) (x1 : Int32) : Option (Int32 × BC × Option BC) :=
 o_b1 (f_X3_isYears x1) fun (r1 : Int32) =>
 (if r1 = 0 then
 o_b2 (f_X3_refuse M (-2)) fun (r31 : Int32) (M32 : BC) =>
 some (r31, M32, To)
 else
 o_b3 (f_X3_bestBook fu M To x1 6) fun (r3 : Int32) (M4 : BC) (TO5 : Option BC) =>
 o_op TO5 none fun (T8 : BC) =>
 o_lt (M4.1 0 13) fun (v10 : Int32) =>
 o_b3 (f_X3_bestBook fu M4 (some T8) x1 0) fun (r11 : Int32) (M12 : BC) (TO13 : Option BC) =>
 o_op TO13 none fun (T16 : BC) =>
 o_lp (f_X3_many_L36 x1 fu v10) fu (0, M12, (some T16)))
abbrev rm_X3_many (tQ : Option ((Nat → Nat) × BC)) : Room := { frames := 8, cells := o_k 45 tQ, slots := o_k 842 tQ, locals := 192 }
set_option maxHeartbeats 4000000 in
set_option maxRecDepth 100000 in
theorem m_X3_many (l : Launch) (D : va_G) (g : Nat → ClassId) (sz : Nat) (adM : Nat → Nat) (kM : Option Nat) (tQ : Option ((Nat → Nat) × BC)) (fu : Nat) (M : BC) (x1 : Int32) (rO : Int32) (MO : BC) (TO : Option BC) (hf : f_X3_many fu M (tQ.map Prod.snd) x1 = some (rO, MO, TO)) : bMet (S := Option ((Nat → Nat) × BC)) l yX3_many (ws_ yX3_many cX3_many 4 (some .int)) (rm_X3_many tQ) D g sz [.ref (adM 0), .int x1] [mW g adM kM (o_a tQ) M, oM g tQ] (fun tQ1 => tQ1.map Prod.snd = TO) (fun _ => some (.int rO)) (fun tQ1 => [mW g adM kM (o_a tQ1) MO, oM g tQ1]) := by
  refine b_met (by decide) (Nat.le_of_ble_eq_true rfl) ?_
  intro p e s m args below meth c A Q ls hx hb hml hr hlk hown hname hts hE hl hW
  revert hW; generalize s.heap = H; intro hW
  have hl : lv_has ls 4 [(0, .ref (adM 0)), (1, .int x1)] := hl
  rw [f_X3_many] at hf
  have hq0 : 0 + o_k 45 tQ ≤ o_k 45 tQ ∧ 0 + o_k 842 tQ ≤ o_k 842 tQ := ⟨Nat.le_of_eq (Nat.zero_add _), Nat.le_of_eq (Nat.zero_add _)⟩
  refine lv_iload_n hx hb dX3_many_0 rfl (lv_at hl 1 rfl) ?_
  obtain ⟨r1, hc1, hf⟩ := o_b1s hf
  have hp1 : List.Perm [mW g adM kM (o_a tQ) M, oM g tQ] ([] ++ [mW g adM kM (o_a tQ) M, oM g tQ]) := b_perm [] [0, 1] 2 rfl rfl rfl rfl
  refine b_call0 ⟨rfl, rfl⟩ (va_runS (As := [.int x1]) (rest := []) ⟨hx, hb, hml, hown, hts⟩ (m_X3_isYears l D g H.size x1 r1 hc1) (va_cwS 1 hts (lw_S q1918 q1919 q79 q1920) rfl rfl rfl (by decide +kernel) ⟨Nat.le_of_ble_eq_true rfl, Nat.le_of_ble_eq_true rfl⟩) (b_preS hW hp1) rfl rfl hl.1 rfl (lv_room (Nat.le_of_ble_eq_true rfl)) dX3_many_1 ⟨o_q2 hq0.1, o_q2 hq0.2⟩) hW hp1 (fun _ _ H locs hW => ?_)
  have hW : bW D g A s H locs [mW g adM kM (o_a tQ) M, oM g tQ] := hW
  refine lv_if_ne (tgt := 14) hx hb dX3_many_4 (by decide) (fun c2 => ?_) (fun c2 => ?_)
  · have hf := o_f hf c2
    refine lv_aload_n hx hb dX3_many_14 rfl (lv_at hl 0 rfl) ?_
    refine lv_iload_n hx hb dX3_many_15 rfl (lv_at hl 1 rfl) ?_
    refine lv_bipush (v := 6) hx hb dX3_many_16 (by decide) ?_
    obtain ⟨r3, M4, TO5, hc5, hf⟩ := o_b3s hf
    have hp5 : List.Perm [mW g adM kM (o_a tQ) M, oM g tQ] ([mW g adM kM (o_a tQ) M, oM g tQ] ++ []) := b_perm [0, 1] [] 2 rfl rfl rfl rfl
    refine b_call (va_runV (As := [.int x1, .int 6]) (rest := []) ⟨hx, hb, hml, hown, hts⟩ (m_X3_bestBook l D g H.size adM kM tQ fu M x1 6 r3 M4 TO5 hc5) (cwV 2 hts (lw_V q1941 q1943 qs70 q79 q1944) rfl rfl rfl (by decide +kernel) ⟨Nat.le_of_ble_eq_true rfl, Nat.le_of_ble_eq_true rfl⟩) (b_preV (pp := 0) (q := 0) hW hp5 rfl mW_0 rfl) rfl rfl hl.1 rfl (lv_room (Nat.le_of_ble_eq_true rfl)) dX3_many_18 ⟨hq0.1, hq0.2⟩) hW hp5 (fun tq6 htq6 H locs hW => ?_)
    subst htq6
    refine W.cs (cells' := (0 + o_k 45 tQ)) (slots' := (0 + o_k 842 tQ)) rfl rfl ?_
    have hW : bW D g A s H locs [mW g adM kM (o_a tq6) M4, oM g tq6] := hW
    obtain ⟨ad7, T8, rfl⟩ := o_qs hf
    have hf := o_ops hf rfl
    have hq9 : (0 + o_k 45 tQ) + o_k 45 (some (ad7, T8)) ≤ o_k 45 tQ ∧ (0 + o_k 842 tQ) + o_k 842 (some (ad7, T8)) ≤ o_k 842 tQ := hq0
    have hW : bW D g A s H locs [mW g adM kM (some (ad7 0)) M4, mW g ad7 none none T8] := hW
    refine lv_pop hx hb dX3_many_21 rfl ?_
    refine lv_aload_n hx hb dX3_many_22 rfl (lv_at hl 0 rfl) ?_
    refine b_get hx hb hts in_X3 hown hW 0 0 3 32 rfl mW_0 rfl (by decide) ⟨rfl, rfl, rfl⟩ (hts _ q1491) mW_g32 dX3_many_23 ?_
    obtain ⟨v10, ev10, hf⟩ := o_ls hf
    refine b_topi ev10 ?_
    refine lv_istore_n (lv' := [(2, .int v10), (0, .ref (adM 0)), (1, .int x1)]) hx hb dX3_many_26 rfl hl (by decide) rfl (fun ls hl => ?_)
    refine lv_iconst (v := 0) hx hb dX3_many_27 (by decide) ?_
    refine lv_istore_n (lv' := [(3, .int 0), (2, .int v10), (0, .ref (adM 0)), (1, .int x1)]) hx hb dX3_many_28 rfl hl (by decide) rfl (fun ls hl => ?_)
    refine lv_aload_n hx hb dX3_many_29 rfl (lv_at hl 2 rfl) ?_
    refine lv_iload_n hx hb dX3_many_30 rfl (lv_at hl 3 rfl) ?_
    refine lv_iconst (v := 0) hx hb dX3_many_31 (by decide) ?_
    obtain ⟨r11, M12, TO13, hc13, hf⟩ := o_b3s hf
    have hp13 : List.Perm [mW g adM kM (some (ad7 0)) M4, mW g ad7 none none T8] ([mW g adM kM (some (ad7 0)) M4, mW g ad7 none none T8] ++ []) := b_perm [0, 1] [] 2 rfl rfl rfl rfl
    refine b_call (va_runV (As := [.int x1, .int 0]) (rest := []) ⟨hx, hb, hml, hown, hts⟩ (m_X3_bestBook l D g H.size adM kM (some (ad7, T8)) fu M4 x1 0 r11 M12 TO13 hc13) (cwV 2 hts (lw_V q1941 q1943 qs70 q79 q1944) rfl rfl rfl (by decide +kernel) ⟨Nat.le_of_ble_eq_true rfl, Nat.le_of_ble_eq_true rfl⟩) (b_preV (pp := 0) (q := 0) hW hp13 rfl mW_0 rfl) rfl rfl hl.1 rfl (lv_room (Nat.le_of_ble_eq_true rfl)) dX3_many_32 ⟨hq9.1, hq9.2⟩) hW hp13 (fun tq14 htq14 H locs hW => ?_)
    subst htq14
    refine W.cs (cells' := ((0 + o_k 45 tQ) + o_k 45 (some (ad7, T8)))) (slots' := ((0 + o_k 842 tQ) + o_k 842 (some (ad7, T8)))) rfl rfl ?_
    have hW : bW D g A s H locs [mW g adM kM (o_a tq14) M12, oM g tq14] := hW
    obtain ⟨ad15, T16, rfl⟩ := o_qs hf
    have hf := o_ops hf rfl
    have hq17 : ((0 + o_k 45 tQ) + o_k 45 (some (ad7, T8))) + o_k 45 (some (ad15, T16)) ≤ o_k 45 tQ ∧ ((0 + o_k 842 tQ) + o_k 842 (some (ad7, T8))) + o_k 842 (some (ad15, T16)) ≤ o_k 842 tQ := hq9
    have hW : bW D g A s H locs [mW g adM kM (some (ad15 0)) M12, mW g ad15 none none T16] := hW
    refine lv_pop hx hb dX3_many_35 rfl ?_
    obtain ⟨stp18, est18, hf⟩ := o_ln hf
    have L18 : ∀ (n : Nat) (v19 : Int32) (M20 : BC) (tq21 : Option ((Nat → Nat) × BC)) (cq21 sq21 : Nat) (hq21 : cq21 + o_k 45 tq21 ≤ o_k 45 tQ ∧ sq21 + o_k 842 tq21 ≤ o_k 842 tQ) (H : Heap) (locs : List Loc) (ls : Array Slot), bW D g A s H locs [mW g adM kM (o_a tq21) M20, oM g tq21] → lv_has ls 4 [(3, .int v19), (2, .int v10), (0, .ref (adM 0)), (1, .int x1)] → o_lp stp18 n (v19, M20, (tq21.map Prod.snd)) = some (rO, MO, TO) → W p l e (rm_X3_many tQ) s m args below meth c H locs cq21 sq21 Q (F0 m 36 ls []) := by
      intro n18
      induction n18 with
      | zero => intro v19 M20 tq21 cq21 sq21 hq21 H locs ls hW hl hf; exact (o_lz hf).elim
      | succ n18 ih18 =>
        intro v19 M20 tq21 cq21 sq21 hq21 H locs ls hW hl hf
        have hf := o_lu est18 hf
        rw [f_X3_many_L36] at hf
        refine lv_aload_n hx hb dX3_many_36 rfl (lv_at hl 2 rfl) ?_
        refine b_get hx hb hts in_X3 hown hW 0 0 3 32 rfl mW_0 rfl (by decide) ⟨rfl, rfl, rfl⟩ (hts _ q1491) mW_g32 dX3_many_37 ?_
        refine lv_iload_n hx hb dX3_many_40 rfl (lv_at hl 1 rfl) ?_
        refine lv_icmp_eq (tgt := 57) hx hb dX3_many_41 (by decide) (fun c22 => ?_) (fun c22 => ?_)
        · have hf := o_t hf c22
          refine lv_iload_n hx hb dX3_many_57 rfl (lv_at hl 0 rfl) ?_
          refine W.widen (k := o_k 45 tQ) (n := o_k 842 tQ) (o_q3 hq21.1) (o_q3 hq21.2) ?_
          cases hf
          exact b_iret hx hb hr hlk hE hW tq21 rfl rfl rfl dX3_many_58
        · have hf := o_f hf c22
          obtain ⟨v23, ev23, hf⟩ := o_ls hf
          refine lv_iinc (v := v23) (lv' := [(3, .int v23), (2, .int v10), (0, .ref (adM 0)), (1, .int x1)]) hx hb dX3_many_44 hl (k := 0) rfl ev23 (by decide) rfl (fun ls hl => ?_)
          refine lv_aload_n hx hb dX3_many_47 rfl (lv_at hl 2 rfl) ?_
          refine lv_iload_n hx hb dX3_many_48 rfl (lv_at hl 3 rfl) ?_
          refine lv_iload_n hx hb dX3_many_49 rfl (lv_at hl 0 rfl) ?_
          obtain ⟨r24, M25, TO26, hc26, hf⟩ := o_b3s hf
          have hp26 : List.Perm [mW g adM kM (o_a tq21) M20, oM g tq21] ([mW g adM kM (o_a tq21) M20, oM g tq21] ++ []) := b_perm [0, 1] [] 2 rfl rfl rfl rfl
          refine b_call (va_runV (As := [.int x1, .int v23]) (rest := []) ⟨hx, hb, hml, hown, hts⟩ (m_X3_bestBook l D g H.size adM kM tq21 fu M20 x1 v23 r24 M25 TO26 hc26) (cwV 2 hts (lw_V q1941 q1943 qs70 q79 q1944) rfl rfl rfl (by decide +kernel) ⟨Nat.le_of_ble_eq_true rfl, Nat.le_of_ble_eq_true rfl⟩) (b_preV (pp := 0) (q := 0) hW hp26 rfl mW_0 rfl) rfl rfl hl.1 rfl (lv_room (Nat.le_of_ble_eq_true rfl)) dX3_many_50 ⟨hq21.1, hq21.2⟩) hW hp26 (fun tq27 htq27 H locs hW => ?_)
          subst htq27
          refine W.cs (cells' := (cq21 + o_k 45 tq21)) (slots' := (sq21 + o_k 842 tq21)) rfl rfl ?_
          have hW : bW D g A s H locs [mW g adM kM (o_a tq27) M25, oM g tq27] := hW
          obtain ⟨ad28, T29, rfl⟩ := o_qs hf
          have hf := o_ops hf rfl
          have hq30 : (cq21 + o_k 45 tq21) + o_k 45 (some (ad28, T29)) ≤ o_k 45 tQ ∧ (sq21 + o_k 842 tq21) + o_k 842 (some (ad28, T29)) ≤ o_k 842 tQ := hq21
          have hW : bW D g A s H locs [mW g adM kM (some (ad28 0)) M25, mW g ad28 none none T29] := hW
          refine lv_pop hx hb dX3_many_53 rfl ?_
          refine lv_goto (tgt := 36) hx hb dX3_many_54 (by decide) ?_
          exact ih18 _ _ (some (ad28, T29)) ((cq21 + o_k 45 tq21)) ((sq21 + o_k 842 tq21)) hq30 _ _ _ hW (lv_sub hl [0, 1, 2, 3] rfl) hf
    exact L18 _ _ _ (some (ad15, T16)) (((0 + o_k 45 tQ) + o_k 45 (some (ad7, T8)))) (((0 + o_k 842 tQ) + o_k 842 (some (ad7, T8)))) hq17 _ _ _ hW (lv_sub hl [0, 1, 2, 3] rfl) hf
  · have hf := o_t hf c2
    refine lv_aload_n hx hb dX3_many_7 rfl (lv_at hl 0 rfl) ?_
    refine lv_bipush (v := (-2)) hx hb dX3_many_8 (by decide) ?_
    obtain ⟨r31, M32, hc32, hf⟩ := o_b2s hf
    have hp32 : List.Perm [mW g adM kM (o_a tQ) M, oM g tQ] ([mW g adM kM (o_a tQ) M] ++ [oM g tQ]) := b_perm [0] [1] 2 rfl rfl rfl rfl
    refine b_call0 ⟨rfl, rfl⟩ (va_runV (As := [.int (-2)]) (rest := []) ⟨hx, hb, hml, hown, hts⟩ (m_X3_refuse l D g H.size adM kM (o_a tQ) M (-2) r31 M32 hc32) (cwV 1 hts (lw_V q1572 q1574 qs33 q79 q1575) rfl rfl rfl (by decide +kernel) ⟨Nat.le_of_ble_eq_true rfl, Nat.le_of_ble_eq_true rfl⟩) (b_preV (pp := 0) (q := 0) hW hp32 rfl mW_0 rfl) rfl rfl hl.1 rfl (lv_room (Nat.le_of_ble_eq_true rfl)) dX3_many_10 ⟨o_q2 hq0.1, o_q2 hq0.2⟩) hW hp32 (fun _ _ H locs hW => ?_)
    have hW : bW D g A s H locs [mW g adM kM (o_a tQ) M32, oM g tQ] := hW
    refine W.widen (k := o_k 45 tQ) (n := o_k 842 tQ) (o_q3 hq0.1) (o_q3 hq0.2) ?_
    cases hf
    exact b_iret hx hb hr hlk hE hW tQ rfl rfl rfl dX3_many_13
def f_X3_findRound_L147 (x1 : Int32) (v6 : Int32) (rec5 : (Int32 × BC × Option BC) → Option (BC × Option BC)) (Q17 : BC) (rec21 : (Int32 × Int32 × BC) → Option (BC × Option BC)) : Int32 × Int32 × BC → Option (BC × Option BC)
  | (v22, v23, M24) =>
    (if x1 ≤ v23 then
     o_lt (v6 + 1) fun (v26 : Int32) =>
     rec5 (v26, M24, (some Q17))
     else
     o_ck (!decide (((M24.1 0 1) + 1) = 0)) (o_lt (v22 / ((M24.1 0 1) + 1)) fun (v28 : Int32) =>
     o_ck (!decide (v28 = 0)) (o_lt (((v6 / v28) - (v6 / v28) / ((M24.1 0 1) + 1) * ((M24.1 0 1) + 1)) - 1) fun (v30 : Int32) =>
     o_ck (inB v23 3) (o_lt (bI M24 44 (upd (M24.1 44) (ix v23) v30)) fun (M32 : BC) =>
     o_lt (v23 + 1) fun (v33 : Int32) =>
     rec21 (v28, v33, M32)))))
def f_X3_findRound_L147_37 (x1 : Int32) (v6 : Int32) (rec5 : (Int32 × BC × Option BC) → Option (BC × Option BC)) (Q17 : BC) (rec37 : (Int32 × Int32 × BC) → Option (BC × Option BC)) : Int32 × Int32 × BC → Option (BC × Option BC)
  | (v38, v39, M40) =>
    (if x1 ≤ v39 then
     o_lt (v6 + 1) fun (v42 : Int32) =>
     rec5 (v42, M40, (some Q17))
     else
     o_ck (!decide (((M40.1 0 1) + 1) = 0)) (o_lt (v38 / ((M40.1 0 1) + 1)) fun (v44 : Int32) =>
     o_ck (!decide (v44 = 0)) (o_lt (((v6 / v44) - (v6 / v44) / ((M40.1 0 1) + 1) * ((M40.1 0 1) + 1)) - 1) fun (v46 : Int32) =>
     o_ck (inB v39 3) (o_lt (bI M40 44 (upd (M40.1 44) (ix v39) v46)) fun (M48 : BC) =>
     o_lt (v39 + 1) fun (v49 : Int32) =>
     rec37 (v44, v49, M48)))))
def f_X3_findRound_L46 (x1 : Int32) (fu : Nat) (v2 : Int32) (v6 : Int32) (M7 : BC) (rec5 : (Int32 × BC × Option BC) → Option (BC × Option BC)) (rec13 : (Int32 × Int32 × Int32 × BC) → Option (BC × Option BC)) : Int32 × Int32 × Int32 × BC → Option (BC × Option BC)
  | (v14, v15, v16, Q17) =>
    (if x1 ≤ v16 then
     (if v6 = 0 then
     o_lt (bI M7 0 (upd (M7.1 0) 13 v15)) fun (M20 : BC) =>
     o_lp (f_X3_findRound_L147 x1 v6 rec5 Q17) fu (v2, 0, M20)
     else
     (if v15 ≤ (M7.1 0 13) then
     o_lt (v6 + 1) fun (v35 : Int32) =>
     rec5 (v35, M7, (some Q17))
     else
     o_lt (bI M7 0 (upd (M7.1 0) 13 v15)) fun (M36 : BC) =>
     o_lp (f_X3_findRound_L147_37 x1 v6 rec5 Q17) fu (v2, 0, M36)))
     else
     o_ck (!decide (((M7.1 0 1) + 1) = 0)) (o_lt (v14 / ((M7.1 0 1) + 1)) fun (v51 : Int32) =>
     o_ck (!decide (v51 = 0)) (o_lt (((v6 / v51) - (v6 / v51) / ((M7.1 0 1) + 1) * ((M7.1 0 1) + 1)) - 1) fun (v53 : Int32) =>
     (if v53 = (-1) then
     o_b2 (f_X3_joyIn fu Q17 1 (-1)) fun (r55 : Int32) (Q56 : BC) =>
     o_lt (v15 + r55) fun (v57 : Int32) =>
     o_lt (v16 + 1) fun (v58 : Int32) =>
     rec13 (v51, v57, v58, Q56)
     else
     o_ck (inB v53 6) (o_lt (Q17.1 (18 + ix v53) (ix 0)) fun (v60 : Int32) =>
     o_lt (bI Q17 (18 + ix v53) (upd (Q17.1 (18 + ix v53)) (ix 4) v60)) fun (Q61 : BC) =>
     o_b2 (f_X3_joyIn fu Q61 1 (-1)) fun (r62 : Int32) (Q63 : BC) =>
     o_lt (v15 + r62) fun (v64 : Int32) =>
     o_lt (v16 + 1) fun (v65 : Int32) =>
     rec13 (v51, v64, v65, Q63))))))
def f_X3_findRound_L26 (x1 : Int32) (fu : Nat) (v2 : Int32) (rec5 : (Int32 × BC × Option BC) → Option (BC × Option BC)) : Int32 × BC × Option BC → Option (BC × Option BC)
  | (v6, M7, q8) =>
    (if v2 ≤ v6 then
     some (M7, q8)
     else
     o_b1 (f_X3_fresh fu M7 q8) fun (T10 : BC) =>
     o_lp (f_X3_findRound_L46 x1 fu v2 v6 M7 rec5) fu (v2, 0, 0, T10))
def f_X3_findRound_L4 (M : BC) (To : Option BC) (x1 : Int32) (fu : Nat) (rec1 : (Int32 × Int32) → Option (BC × Option BC)) : Int32 × Int32 → Option (BC × Option BC)
  | (v2, v3) =>
    (if x1 ≤ v3 then
     o_lp (f_X3_findRound_L26 x1 fu v2) fu (0, M, To)
     else
     o_lt (v2 * ((M.1 0 1) + 1)) fun (v66 : Int32) =>
     o_lt (v3 + 1) fun (v67 : Int32) =>
     rec1 (v66, v67))
def f_X3_findRound (fu : Nat) (M : BC) (To : Option BC) (x1 : Int32) : Option (BC × Option BC) :=
 o_lp (f_X3_findRound_L4 M To x1 fu) fu (1, 0)
abbrev rm_X3_findRound (tQ : Option ((Nat → Nat) × BC)) : Room := { frames := 6, cells := o_k 45 tQ, slots := o_k 842 tQ, locals := 143 }
set_option maxHeartbeats 4000000 in
set_option maxRecDepth 100000 in
theorem m_X3_findRound (l : Launch) (D : va_G) (g : Nat → ClassId) (sz : Nat) (adM : Nat → Nat) (kM : Option Nat) (tQ : Option ((Nat → Nat) × BC)) (fu : Nat) (M : BC) (x1 : Int32) (MO : BC) (TO : Option BC) (hf : f_X3_findRound fu M (tQ.map Prod.snd) x1 = some (MO, TO)) : bMet (S := Option ((Nat → Nat) × BC)) l yX3_findRound (ws_ yX3_findRound cX3_findRound 9 none) (rm_X3_findRound tQ) D g sz [.ref (adM 0), .int x1] [mW g adM kM (o_a tQ) M, oM g tQ] (fun tQ1 => tQ1.map Prod.snd = TO) (fun _ => none) (fun tQ1 => [mW g adM kM (o_a tQ1) MO, oM g tQ1]) := by
  refine b_met (by decide) (Nat.le_of_ble_eq_true rfl) ?_
  intro p e s m args below meth c A Q ls hx hb hml hr hlk hown hname hts hE hl hW
  revert hW; generalize s.heap = H; intro hW
  have hl : lv_has ls 9 [(0, .ref (adM 0)), (1, .int x1)] := hl
  rw [f_X3_findRound] at hf
  have hq0 : 0 + o_k 45 tQ ≤ o_k 45 tQ ∧ 0 + o_k 842 tQ ≤ o_k 842 tQ := ⟨Nat.le_of_eq (Nat.zero_add _), Nat.le_of_eq (Nat.zero_add _)⟩
  refine lv_iconst (v := 1) hx hb dX3_findRound_0 (by decide) ?_
  refine lv_istore_n (lv' := [(2, .int 1), (0, .ref (adM 0)), (1, .int x1)]) hx hb dX3_findRound_1 rfl hl (by decide) rfl (fun ls hl => ?_)
  refine lv_iconst (v := 0) hx hb dX3_findRound_2 (by decide) ?_
  refine lv_istore_n (lv' := [(3, .int 0), (2, .int 1), (0, .ref (adM 0)), (1, .int x1)]) hx hb dX3_findRound_3 rfl hl (by decide) rfl (fun ls hl => ?_)
  obtain ⟨stp1, est1, hf⟩ := o_ln hf
  have L1 : ∀ (n : Nat) (v2 : Int32) (v3 : Int32) (H : Heap) (locs : List Loc) (ls : Array Slot), bW D g A s H locs [mW g adM kM (o_a tQ) M, oM g tQ] → lv_has ls 9 [(3, .int v3), (2, .int v2), (0, .ref (adM 0)), (1, .int x1)] → o_lp stp1 n (v2, v3) = some (MO, TO) → W p l e (rm_X3_findRound tQ) s m args below meth c H locs 0 0 Q (F0 m 4 ls []) := by
    intro n1
    induction n1 with
    | zero => intro v2 v3 H locs ls hW hl hf; exact (o_lz hf).elim
    | succ n1 ih1 =>
      intro v2 v3 H locs ls hW hl hf
      have hf := o_lu est1 hf
      rw [f_X3_findRound_L4] at hf
      refine lv_iload_n hx hb dX3_findRound_4 rfl (lv_at hl 0 rfl) ?_
      refine lv_iload_n hx hb dX3_findRound_5 rfl (lv_at hl 3 rfl) ?_
      refine lv_icmp_ge (tgt := 24) hx hb dX3_findRound_6 (by decide) (fun c4 => ?_) (fun c4 => ?_)
      · have hf := o_t hf c4
        refine lv_iconst (v := 0) hx hb dX3_findRound_24 (by decide) ?_
        refine lv_istore_n (lv' := [(3, .int 0), (2, .int v2), (0, .ref (adM 0)), (1, .int x1)]) hx hb dX3_findRound_25 rfl hl (by decide) rfl (fun ls hl => ?_)
        obtain ⟨stp5, est5, hf⟩ := o_ln hf
        have L5 : ∀ (n : Nat) (v6 : Int32) (M7 : BC) (tq8 : Option ((Nat → Nat) × BC)) (cq8 sq8 : Nat) (hq8 : cq8 + o_k 45 tq8 ≤ o_k 45 tQ ∧ sq8 + o_k 842 tq8 ≤ o_k 842 tQ) (H : Heap) (locs : List Loc) (ls : Array Slot), bW D g A s H locs [mW g adM kM (o_a tq8) M7, oM g tq8] → lv_has ls 9 [(3, .int v6), (2, .int v2), (0, .ref (adM 0)), (1, .int x1)] → o_lp stp5 n (v6, M7, (tq8.map Prod.snd)) = some (MO, TO) → W p l e (rm_X3_findRound tQ) s m args below meth c H locs cq8 sq8 Q (F0 m 26 ls []) := by
          intro n5
          induction n5 with
          | zero => intro v6 M7 tq8 cq8 sq8 hq8 H locs ls hW hl hf; exact (o_lz hf).elim
          | succ n5 ih5 =>
            intro v6 M7 tq8 cq8 sq8 hq8 H locs ls hW hl hf
            have hf := o_lu est5 hf
            rw [f_X3_findRound_L26] at hf
            refine lv_iload_n hx hb dX3_findRound_26 rfl (lv_at hl 0 rfl) ?_
            refine lv_iload_n hx hb dX3_findRound_27 rfl (lv_at hl 1 rfl) ?_
            refine lv_icmp_ge (tgt := 196) hx hb dX3_findRound_28 (by decide) (fun c9 => ?_) (fun c9 => ?_)
            · have hf := o_t hf c9
              refine W.widen (k := o_k 45 tQ) (n := o_k 842 tQ) (o_q3 hq8.1) (o_q3 hq8.2) ?_
              cases hf
              exact b_vret hx hb hr hlk hE hW tq8 rfl rfl rfl dX3_findRound_196
            · have hf := o_f hf c9
              refine lv_aload_n hx hb dX3_findRound_31 rfl (lv_at hl 2 rfl) ?_
              obtain ⟨T10, hc11, hf⟩ := o_b1s hf
              have hp11 : List.Perm [mW g adM kM (o_a tq8) M7, oM g tq8] ([mW g adM kM (o_a tq8) M7, oM g tq8] ++ []) := b_perm [0, 1] [] 2 rfl rfl rfl rfl
              refine b_call (va_runV (As := []) (rest := []) ⟨hx, hb, hml, hown, hts⟩ (m_X3_fresh l D g H.size adM kM tq8 fu M7 T10 hc11) (cwV 0 hts (lw_V q1701 q1703 qs45 q79 q1704) rfl rfl rfl (by decide +kernel) ⟨Nat.le_of_ble_eq_true rfl, Nat.le_of_ble_eq_true rfl⟩) (b_preV (pp := 0) (q := 0) hW hp11 rfl mW_0 rfl) rfl rfl hl.1 rfl (lv_room (Nat.le_of_ble_eq_true rfl)) dX3_findRound_32 ⟨hq8.1, hq8.2⟩) hW hp11 (fun ad11 _ H locs hW => ?_)
              refine W.cs (cells' := (cq8 + o_k 45 tq8)) (slots' := (sq8 + o_k 842 tq8)) rfl rfl ?_
              have hq12 : (cq8 + o_k 45 tq8) + o_k 45 (some (ad11, T10)) ≤ o_k 45 tQ ∧ (sq8 + o_k 842 tq8) + o_k 842 (some (ad11, T10)) ≤ o_k 842 tQ := hq8
              have hW : bW D g A s H locs [mW g adM kM (some (ad11 0)) M7, mW g ad11 none none T10] := hW
              refine lv_astore (lv' := [(4, .ref (ad11 0)), (3, .int v6), (2, .int v2), (0, .ref (adM 0)), (1, .int x1)]) hx hb dX3_findRound_35 hl (by decide) rfl (fun ls hl => ?_)
              refine lv_iload_n hx hb dX3_findRound_37 rfl (lv_at hl 2 rfl) ?_
              refine lv_istore (lv' := [(5, .int v2), (4, .ref (ad11 0)), (3, .int v6), (2, .int v2), (0, .ref (adM 0)), (1, .int x1)]) hx hb dX3_findRound_38 hl (by decide) rfl (fun ls hl => ?_)
              refine lv_iconst (v := 0) hx hb dX3_findRound_40 (by decide) ?_
              refine lv_istore (lv' := [(6, .int 0), (5, .int v2), (4, .ref (ad11 0)), (3, .int v6), (2, .int v2), (0, .ref (adM 0)), (1, .int x1)]) hx hb dX3_findRound_41 hl (by decide) rfl (fun ls hl => ?_)
              refine lv_iconst (v := 0) hx hb dX3_findRound_43 (by decide) ?_
              refine lv_istore (lv' := [(7, .int 0), (6, .int 0), (5, .int v2), (4, .ref (ad11 0)), (3, .int v6), (2, .int v2), (0, .ref (adM 0)), (1, .int x1)]) hx hb dX3_findRound_44 hl (by decide) rfl (fun ls hl => ?_)
              obtain ⟨stp13, est13, hf⟩ := o_ln hf
              have L13 : ∀ (n : Nat) (v14 : Int32) (v15 : Int32) (v16 : Int32) (Q17 : BC) (H : Heap) (locs : List Loc) (ls : Array Slot), bW D g A s H locs [mW g adM kM (some (ad11 0)) M7, mW g ad11 none none Q17] → lv_has ls 9 [(7, .int v16), (6, .int v15), (5, .int v14), (4, .ref (ad11 0)), (3, .int v6), (2, .int v2), (0, .ref (adM 0)), (1, .int x1)] → o_lp stp13 n (v14, v15, v16, Q17) = some (MO, TO) → W p l e (rm_X3_findRound tQ) s m args below meth c H locs (cq8 + o_k 45 tq8) (sq8 + o_k 842 tq8) Q (F0 m 46 ls []) := by
                intro n13
                induction n13 with
                | zero => intro v14 v15 v16 Q17 H locs ls hW hl hf; exact (o_lz hf).elim
                | succ n13 ih13 =>
                  intro v14 v15 v16 Q17 H locs ls hW hl hf
                  have hf := o_lu est13 hf
                  rw [f_X3_findRound_L46] at hf
                  refine lv_iload hx hb dX3_findRound_46 (lv_at hl 0 rfl) ?_
                  refine lv_iload_n hx hb dX3_findRound_48 rfl (lv_at hl 7 rfl) ?_
                  refine lv_icmp_ge (tgt := 122) hx hb dX3_findRound_49 (by decide) (fun c18 => ?_) (fun c18 => ?_)
                  · have hf := o_t hf c18
                    refine lv_iload_n hx hb dX3_findRound_122 rfl (lv_at hl 4 rfl) ?_
                    refine lv_if_eq (tgt := 135) hx hb dX3_findRound_123 (by decide) (fun c19 => ?_) (fun c19 => ?_)
                    · have hf := o_t hf c19
                      refine lv_aload_n hx hb dX3_findRound_135 rfl (lv_at hl 6 rfl) ?_
                      refine lv_iload hx hb dX3_findRound_136 (lv_at hl 1 rfl) ?_
                      obtain ⟨M20, eM20, hf⟩ := o_ls hf
                      refine b_put hx hb hts in_X3 tyX3 tyX3_ok nmX3 hown hW 0 0 3 32 rfl mW_0 (mW_p32 eM20) rfl rfl (by decide) ⟨rfl, rfl, rfl⟩ (hts _ q1491) rfl (ty := .int) rfl rfl rfl (by rw [mW_l]; decide) dX3_findRound_138 (fun H locs hW => ?_)
                      have hW : bW D g A s H locs [mW g adM kM (some (ad11 0)) M20, mW g ad11 none none Q17] := hW
                      refine lv_iload_n hx hb dX3_findRound_141 rfl (lv_at hl 5 rfl) ?_
                      refine lv_istore (lv' := [(5, .int v2), (7, .int v16), (6, .int v15), (4, .ref (ad11 0)), (3, .int v6), (2, .int v2), (0, .ref (adM 0)), (1, .int x1)]) hx hb dX3_findRound_142 hl (by decide) rfl (fun ls hl => ?_)
                      refine lv_iconst (v := 0) hx hb dX3_findRound_144 (by decide) ?_
                      refine lv_istore (lv' := [(7, .int 0), (5, .int v2), (6, .int v15), (4, .ref (ad11 0)), (3, .int v6), (2, .int v2), (0, .ref (adM 0)), (1, .int x1)]) hx hb dX3_findRound_145 hl (by decide) rfl (fun ls hl => ?_)
                      obtain ⟨stp21, est21, hf⟩ := o_ln hf
                      have L21 : ∀ (n : Nat) (v22 : Int32) (v23 : Int32) (M24 : BC) (H : Heap) (locs : List Loc) (ls : Array Slot), bW D g A s H locs [mW g adM kM (some (ad11 0)) M24, mW g ad11 none none Q17] → lv_has ls 9 [(7, .int v23), (5, .int v22), (3, .int v6), (2, .int v2), (0, .ref (adM 0)), (1, .int x1)] → o_lp stp21 n (v22, v23, M24) = some (MO, TO) → W p l e (rm_X3_findRound tQ) s m args below meth c H locs (cq8 + o_k 45 tq8) (sq8 + o_k 842 tq8) Q (F0 m 147 ls []) := by
                        intro n21
                        induction n21 with
                        | zero => intro v22 v23 M24 H locs ls hW hl hf; exact (o_lz hf).elim
                        | succ n21 ih21 =>
                          intro v22 v23 M24 H locs ls hW hl hf
                          have hf := o_lu est21 hf
                          rw [f_X3_findRound_L147] at hf
                          refine lv_iload hx hb dX3_findRound_147 (lv_at hl 0 rfl) ?_
                          refine lv_iload_n hx hb dX3_findRound_149 rfl (lv_at hl 5 rfl) ?_
                          refine lv_icmp_ge (tgt := 190) hx hb dX3_findRound_150 (by decide) (fun c25 => ?_) (fun c25 => ?_)
                          · have hf := o_t hf c25
                            obtain ⟨v26, ev26, hf⟩ := o_ls hf
                            refine lv_iinc (v := v26) (lv' := [(3, .int v26), (7, .int v23), (5, .int v22), (2, .int v2), (0, .ref (adM 0)), (1, .int x1)]) hx hb dX3_findRound_190 hl (k := 2) rfl ev26 (by decide) rfl (fun ls hl => ?_)
                            refine lv_goto (tgt := 26) hx hb dX3_findRound_193 (by decide) ?_
                            exact ih5 _ _ (some (ad11, Q17)) ((cq8 + o_k 45 tq8)) ((sq8 + o_k 842 tq8)) hq12 _ _ _ hW (lv_sub hl [0, 3, 4, 5] rfl) hf
                          · have hf := o_f hf c25
                            refine lv_iload hx hb dX3_findRound_153 (lv_at hl 1 rfl) ?_
                            refine lv_aload_n hx hb dX3_findRound_155 rfl (lv_at hl 4 rfl) ?_
                            refine b_get hx hb hts in_X3 hown hW 0 0 3 9 rfl mW_0 rfl (by decide) ⟨rfl, rfl, rfl⟩ (hts _ q1468) mW_g9 dX3_findRound_156 ?_
                            refine lv_iconst (v := 1) hx hb dX3_findRound_159 (by decide) ?_
                            refine lv_iadd hx hb dX3_findRound_160 ?_
                            obtain ⟨h27, hf⟩ := o_cs hf
                            refine lv_idiv hx hb dX3_findRound_161 (o_nz h27) ?_
                            obtain ⟨v28, ev28, hf⟩ := o_ls hf
                            refine b_topi ev28 ?_
                            refine lv_istore (lv' := [(5, .int v28), (7, .int v23), (3, .int v6), (2, .int v2), (0, .ref (adM 0)), (1, .int x1)]) hx hb dX3_findRound_162 hl (by decide) rfl (fun ls hl => ?_)
                            refine lv_aload_n hx hb dX3_findRound_164 rfl (lv_at hl 4 rfl) ?_
                            refine b_get hx hb hts in_X3 hown hW 0 0 3 33 rfl mW_0 rfl (by decide) ⟨rfl, rfl, rfl⟩ (hts _ q1492) mW_g33 dX3_findRound_165 ?_
                            refine lv_iload hx hb dX3_findRound_168 (lv_at hl 1 rfl) ?_
                            refine lv_iload_n hx hb dX3_findRound_170 rfl (lv_at hl 2 rfl) ?_
                            refine lv_iload hx hb dX3_findRound_171 (lv_at hl 0 rfl) ?_
                            obtain ⟨h29, hf⟩ := o_cs hf
                            refine lv_idiv hx hb dX3_findRound_173 (o_nz h29) ?_
                            refine lv_aload_n hx hb dX3_findRound_174 rfl (lv_at hl 4 rfl) ?_
                            refine b_get hx hb hts in_X3 hown hW 0 0 3 9 rfl mW_0 rfl (by decide) ⟨rfl, rfl, rfl⟩ (hts _ q1468) mW_g9 dX3_findRound_175 ?_
                            refine lv_iconst (v := 1) hx hb dX3_findRound_178 (by decide) ?_
                            refine lv_iadd hx hb dX3_findRound_179 ?_
                            refine lv_irem hx hb dX3_findRound_180 (o_nz h27) ?_
                            refine lv_iconst (v := 1) hx hb dX3_findRound_181 (by decide) ?_
                            refine lv_isub hx hb dX3_findRound_182 ?_
                            obtain ⟨v30, ev30, hf⟩ := o_ls hf
                            refine b_topi ev30 ?_
                            obtain ⟨h31, hf⟩ := o_cs hf
                            obtain ⟨M32, eM32, hf⟩ := o_ls hf
                            refine b_iast hx hb hW 0 44 rfl mW_44 (mW_s44 eM32) rfl h31 dX3_findRound_183 (fun H locs hW => ?_)
                            have hW : bW D g A s H locs [mW g adM kM (some (ad11 0)) M32, mW g ad11 none none Q17] := hW
                            obtain ⟨v33, ev33, hf⟩ := o_ls hf
                            refine lv_iinc (v := v33) (lv' := [(7, .int v33), (5, .int v28), (3, .int v6), (2, .int v2), (0, .ref (adM 0)), (1, .int x1)]) hx hb dX3_findRound_184 hl (k := 1) rfl ev33 (by decide) rfl (fun ls hl => ?_)
                            refine lv_goto (tgt := 147) hx hb dX3_findRound_187 (by decide) ?_
                            exact ih21 _ _ _ _ _ _ hW (lv_sub hl [0, 1, 2, 3, 4, 5] rfl) hf
                      exact L21 _ _ _ _ _ _ _ hW (lv_sub hl [0, 1, 4, 5, 6, 7] rfl) hf
                    · have hf := o_f hf c19
                      refine lv_iload hx hb dX3_findRound_126 (lv_at hl 1 rfl) ?_
                      refine lv_aload_n hx hb dX3_findRound_128 rfl (lv_at hl 6 rfl) ?_
                      refine b_get hx hb hts in_X3 hown hW 0 0 3 32 rfl mW_0 rfl (by decide) ⟨rfl, rfl, rfl⟩ (hts _ q1491) mW_g32 dX3_findRound_129 ?_
                      refine lv_icmp_le (tgt := 190) hx hb dX3_findRound_132 (by decide) (fun c34 => ?_) (fun c34 => ?_)
                      · have hf := o_t hf c34
                        obtain ⟨v35, ev35, hf⟩ := o_ls hf
                        refine lv_iinc (v := v35) (lv' := [(3, .int v35), (7, .int v16), (6, .int v15), (5, .int v14), (4, .ref (ad11 0)), (2, .int v2), (0, .ref (adM 0)), (1, .int x1)]) hx hb dX3_findRound_190 hl (k := 4) rfl ev35 (by decide) rfl (fun ls hl => ?_)
                        refine lv_goto (tgt := 26) hx hb dX3_findRound_193 (by decide) ?_
                        exact ih5 _ _ (some (ad11, Q17)) ((cq8 + o_k 45 tq8)) ((sq8 + o_k 842 tq8)) hq12 _ _ _ hW (lv_sub hl [0, 5, 6, 7] rfl) hf
                      · have hf := o_f hf c34
                        refine lv_aload_n hx hb dX3_findRound_135 rfl (lv_at hl 6 rfl) ?_
                        refine lv_iload hx hb dX3_findRound_136 (lv_at hl 1 rfl) ?_
                        obtain ⟨M36, eM36, hf⟩ := o_ls hf
                        refine b_put hx hb hts in_X3 tyX3 tyX3_ok nmX3 hown hW 0 0 3 32 rfl mW_0 (mW_p32 eM36) rfl rfl (by decide) ⟨rfl, rfl, rfl⟩ (hts _ q1491) rfl (ty := .int) rfl rfl rfl (by rw [mW_l]; decide) dX3_findRound_138 (fun H locs hW => ?_)
                        have hW : bW D g A s H locs [mW g adM kM (some (ad11 0)) M36, mW g ad11 none none Q17] := hW
                        refine lv_iload_n hx hb dX3_findRound_141 rfl (lv_at hl 5 rfl) ?_
                        refine lv_istore (lv' := [(5, .int v2), (7, .int v16), (6, .int v15), (4, .ref (ad11 0)), (3, .int v6), (2, .int v2), (0, .ref (adM 0)), (1, .int x1)]) hx hb dX3_findRound_142 hl (by decide) rfl (fun ls hl => ?_)
                        refine lv_iconst (v := 0) hx hb dX3_findRound_144 (by decide) ?_
                        refine lv_istore (lv' := [(7, .int 0), (5, .int v2), (6, .int v15), (4, .ref (ad11 0)), (3, .int v6), (2, .int v2), (0, .ref (adM 0)), (1, .int x1)]) hx hb dX3_findRound_145 hl (by decide) rfl (fun ls hl => ?_)
                        obtain ⟨stp37, est37, hf⟩ := o_ln hf
                        have L37 : ∀ (n : Nat) (v38 : Int32) (v39 : Int32) (M40 : BC) (H : Heap) (locs : List Loc) (ls : Array Slot), bW D g A s H locs [mW g adM kM (some (ad11 0)) M40, mW g ad11 none none Q17] → lv_has ls 9 [(7, .int v39), (5, .int v38), (3, .int v6), (2, .int v2), (0, .ref (adM 0)), (1, .int x1)] → o_lp stp37 n (v38, v39, M40) = some (MO, TO) → W p l e (rm_X3_findRound tQ) s m args below meth c H locs (cq8 + o_k 45 tq8) (sq8 + o_k 842 tq8) Q (F0 m 147 ls []) := by
                          intro n37
                          induction n37 with
                          | zero => intro v38 v39 M40 H locs ls hW hl hf; exact (o_lz hf).elim
                          | succ n37 ih37 =>
                            intro v38 v39 M40 H locs ls hW hl hf
                            have hf := o_lu est37 hf
                            rw [f_X3_findRound_L147_37] at hf
                            refine lv_iload hx hb dX3_findRound_147 (lv_at hl 0 rfl) ?_
                            refine lv_iload_n hx hb dX3_findRound_149 rfl (lv_at hl 5 rfl) ?_
                            refine lv_icmp_ge (tgt := 190) hx hb dX3_findRound_150 (by decide) (fun c41 => ?_) (fun c41 => ?_)
                            · have hf := o_t hf c41
                              obtain ⟨v42, ev42, hf⟩ := o_ls hf
                              refine lv_iinc (v := v42) (lv' := [(3, .int v42), (7, .int v39), (5, .int v38), (2, .int v2), (0, .ref (adM 0)), (1, .int x1)]) hx hb dX3_findRound_190 hl (k := 2) rfl ev42 (by decide) rfl (fun ls hl => ?_)
                              refine lv_goto (tgt := 26) hx hb dX3_findRound_193 (by decide) ?_
                              exact ih5 _ _ (some (ad11, Q17)) ((cq8 + o_k 45 tq8)) ((sq8 + o_k 842 tq8)) hq12 _ _ _ hW (lv_sub hl [0, 3, 4, 5] rfl) hf
                            · have hf := o_f hf c41
                              refine lv_iload hx hb dX3_findRound_153 (lv_at hl 1 rfl) ?_
                              refine lv_aload_n hx hb dX3_findRound_155 rfl (lv_at hl 4 rfl) ?_
                              refine b_get hx hb hts in_X3 hown hW 0 0 3 9 rfl mW_0 rfl (by decide) ⟨rfl, rfl, rfl⟩ (hts _ q1468) mW_g9 dX3_findRound_156 ?_
                              refine lv_iconst (v := 1) hx hb dX3_findRound_159 (by decide) ?_
                              refine lv_iadd hx hb dX3_findRound_160 ?_
                              obtain ⟨h43, hf⟩ := o_cs hf
                              refine lv_idiv hx hb dX3_findRound_161 (o_nz h43) ?_
                              obtain ⟨v44, ev44, hf⟩ := o_ls hf
                              refine b_topi ev44 ?_
                              refine lv_istore (lv' := [(5, .int v44), (7, .int v39), (3, .int v6), (2, .int v2), (0, .ref (adM 0)), (1, .int x1)]) hx hb dX3_findRound_162 hl (by decide) rfl (fun ls hl => ?_)
                              refine lv_aload_n hx hb dX3_findRound_164 rfl (lv_at hl 4 rfl) ?_
                              refine b_get hx hb hts in_X3 hown hW 0 0 3 33 rfl mW_0 rfl (by decide) ⟨rfl, rfl, rfl⟩ (hts _ q1492) mW_g33 dX3_findRound_165 ?_
                              refine lv_iload hx hb dX3_findRound_168 (lv_at hl 1 rfl) ?_
                              refine lv_iload_n hx hb dX3_findRound_170 rfl (lv_at hl 2 rfl) ?_
                              refine lv_iload hx hb dX3_findRound_171 (lv_at hl 0 rfl) ?_
                              obtain ⟨h45, hf⟩ := o_cs hf
                              refine lv_idiv hx hb dX3_findRound_173 (o_nz h45) ?_
                              refine lv_aload_n hx hb dX3_findRound_174 rfl (lv_at hl 4 rfl) ?_
                              refine b_get hx hb hts in_X3 hown hW 0 0 3 9 rfl mW_0 rfl (by decide) ⟨rfl, rfl, rfl⟩ (hts _ q1468) mW_g9 dX3_findRound_175 ?_
                              refine lv_iconst (v := 1) hx hb dX3_findRound_178 (by decide) ?_
                              refine lv_iadd hx hb dX3_findRound_179 ?_
                              refine lv_irem hx hb dX3_findRound_180 (o_nz h43) ?_
                              refine lv_iconst (v := 1) hx hb dX3_findRound_181 (by decide) ?_
                              refine lv_isub hx hb dX3_findRound_182 ?_
                              obtain ⟨v46, ev46, hf⟩ := o_ls hf
                              refine b_topi ev46 ?_
                              obtain ⟨h47, hf⟩ := o_cs hf
                              obtain ⟨M48, eM48, hf⟩ := o_ls hf
                              refine b_iast hx hb hW 0 44 rfl mW_44 (mW_s44 eM48) rfl h47 dX3_findRound_183 (fun H locs hW => ?_)
                              have hW : bW D g A s H locs [mW g adM kM (some (ad11 0)) M48, mW g ad11 none none Q17] := hW
                              obtain ⟨v49, ev49, hf⟩ := o_ls hf
                              refine lv_iinc (v := v49) (lv' := [(7, .int v49), (5, .int v44), (3, .int v6), (2, .int v2), (0, .ref (adM 0)), (1, .int x1)]) hx hb dX3_findRound_184 hl (k := 1) rfl ev49 (by decide) rfl (fun ls hl => ?_)
                              refine lv_goto (tgt := 147) hx hb dX3_findRound_187 (by decide) ?_
                              exact ih37 _ _ _ _ _ _ hW (lv_sub hl [0, 1, 2, 3, 4, 5] rfl) hf
                        exact L37 _ _ _ _ _ _ _ hW (lv_sub hl [0, 1, 4, 5, 6, 7] rfl) hf
                  · have hf := o_f hf c18
                    refine lv_iload hx hb dX3_findRound_52 (lv_at hl 2 rfl) ?_
                    refine lv_aload_n hx hb dX3_findRound_54 rfl (lv_at hl 6 rfl) ?_
                    refine b_get hx hb hts in_X3 hown hW 0 0 3 9 rfl mW_0 rfl (by decide) ⟨rfl, rfl, rfl⟩ (hts _ q1468) mW_g9 dX3_findRound_55 ?_
                    refine lv_iconst (v := 1) hx hb dX3_findRound_58 (by decide) ?_
                    refine lv_iadd hx hb dX3_findRound_59 ?_
                    obtain ⟨h50, hf⟩ := o_cs hf
                    refine lv_idiv hx hb dX3_findRound_60 (o_nz h50) ?_
                    obtain ⟨v51, ev51, hf⟩ := o_ls hf
                    refine b_topi ev51 ?_
                    refine lv_istore (lv' := [(5, .int v51), (7, .int v16), (6, .int v15), (4, .ref (ad11 0)), (3, .int v6), (2, .int v2), (0, .ref (adM 0)), (1, .int x1)]) hx hb dX3_findRound_61 hl (by decide) rfl (fun ls hl => ?_)
                    refine lv_iload_n hx hb dX3_findRound_63 rfl (lv_at hl 4 rfl) ?_
                    refine lv_iload hx hb dX3_findRound_64 (lv_at hl 0 rfl) ?_
                    obtain ⟨h52, hf⟩ := o_cs hf
                    refine lv_idiv hx hb dX3_findRound_66 (o_nz h52) ?_
                    refine lv_aload_n hx hb dX3_findRound_67 rfl (lv_at hl 6 rfl) ?_
                    refine b_get hx hb hts in_X3 hown hW 0 0 3 9 rfl mW_0 rfl (by decide) ⟨rfl, rfl, rfl⟩ (hts _ q1468) mW_g9 dX3_findRound_68 ?_
                    refine lv_iconst (v := 1) hx hb dX3_findRound_71 (by decide) ?_
                    refine lv_iadd hx hb dX3_findRound_72 ?_
                    refine lv_irem hx hb dX3_findRound_73 (o_nz h50) ?_
                    refine lv_iconst (v := 1) hx hb dX3_findRound_74 (by decide) ?_
                    refine lv_isub hx hb dX3_findRound_75 ?_
                    obtain ⟨v53, ev53, hf⟩ := o_ls hf
                    refine b_topi ev53 ?_
                    refine lv_istore (lv' := [(8, .int v53), (5, .int v51), (7, .int v16), (6, .int v15), (4, .ref (ad11 0)), (3, .int v6), (2, .int v2), (0, .ref (adM 0)), (1, .int x1)]) hx hb dX3_findRound_76 hl (by decide) rfl (fun ls hl => ?_)
                    refine lv_iload hx hb dX3_findRound_78 (lv_at hl 0 rfl) ?_
                    refine lv_iconst (v := (-1)) hx hb dX3_findRound_80 (by decide) ?_
                    refine lv_icmp_eq (tgt := 104) hx hb dX3_findRound_81 (by decide) (fun c54 => ?_) (fun c54 => ?_)
                    · have hf := o_t hf c54
                      refine lv_iload hx hb dX3_findRound_104 (lv_at hl 3 rfl) ?_
                      refine lv_aload hx hb dX3_findRound_106 (lv_at hl 4 rfl) ?_
                      refine lv_iconst (v := 1) hx hb dX3_findRound_108 (by decide) ?_
                      refine lv_iconst (v := (-1)) hx hb dX3_findRound_109 (by decide) ?_
                      obtain ⟨r55, Q56, hc56, hf⟩ := o_b2s hf
                      have hp56 : List.Perm [mW g adM kM (some (ad11 0)) M7, mW g ad11 none none Q17] ([mW g ad11 none none Q17] ++ [mW g adM kM (some (ad11 0)) M7]) := b_perm [1] [0] 2 rfl rfl rfl rfl
                      refine b_call0 ⟨rfl, rfl⟩ (va_runV (As := [.int 1, .int (-1)]) (rest := [.int v15]) ⟨hx, hb, hml, hown, hts⟩ (m_X3_joyIn l D g H.size ad11 none none fu Q17 1 (-1) r55 Q56 hc56) (cwV 2 hts (lw_V q1922 q1924 qs68 q79 q1925) rfl rfl rfl (by decide +kernel) ⟨Nat.le_of_ble_eq_true rfl, Nat.le_of_ble_eq_true rfl⟩) (b_preV (pp := 1) (q := 0) hW hp56 rfl mW_0 rfl) rfl rfl hl.1 rfl (lv_room (Nat.le_of_ble_eq_true rfl)) dX3_findRound_110 ⟨o_q2 hq12.1, o_q2 hq12.2⟩) hW hp56 (fun _ _ H locs hW => ?_)
                      have hW : bW D g A s H locs [mW g ad11 none none Q56, mW g adM kM (some (ad11 0)) M7] := hW
                      refine lv_iadd hx hb dX3_findRound_113 ?_
                      obtain ⟨v57, ev57, hf⟩ := o_ls hf
                      refine b_topi ev57 ?_
                      refine lv_istore (lv' := [(6, .int v57), (8, .int v53), (5, .int v51), (7, .int v16), (4, .ref (ad11 0)), (3, .int v6), (2, .int v2), (0, .ref (adM 0)), (1, .int x1)]) hx hb dX3_findRound_114 hl (by decide) rfl (fun ls hl => ?_)
                      obtain ⟨v58, ev58, hf⟩ := o_ls hf
                      refine lv_iinc (v := v58) (lv' := [(7, .int v58), (6, .int v57), (8, .int v53), (5, .int v51), (4, .ref (ad11 0)), (3, .int v6), (2, .int v2), (0, .ref (adM 0)), (1, .int x1)]) hx hb dX3_findRound_116 hl (k := 3) rfl ev58 (by decide) rfl (fun ls hl => ?_)
                      refine lv_goto (tgt := 46) hx hb dX3_findRound_119 (by decide) ?_
                      exact ih13 _ _ _ _ _ _ _ (b_perms hW (b_ord [1, 0] 2 rfl rfl rfl)) (lv_sub hl [0, 1, 3, 4, 5, 6, 7, 8] rfl) hf
                    · have hf := o_f hf c54
                      refine lv_aload hx hb dX3_findRound_84 (lv_at hl 4 rfl) ?_
                      refine b_get hx hb hts in_X3 hown hW 1 0 3 10 rfl mW_0 rfl (by decide) ⟨rfl, rfl, rfl⟩ (hts _ q1469) mW_g10 dX3_findRound_86 ?_
                      refine lv_iload hx hb dX3_findRound_89 (lv_at hl 0 rfl) ?_
                      obtain ⟨h59, hf⟩ := o_cs hf
                      refine b_agrI hx hb hW 1 17 rfl mW_17 h59 dX3_findRound_91 ?_
                      refine lv_iconst (v := 4) hx hb dX3_findRound_92 (by decide) ?_
                      refine lv_aload hx hb dX3_findRound_93 (lv_at hl 4 rfl) ?_
                      refine b_get hx hb hts in_X3 hown hW 1 0 3 10 rfl mW_0 rfl (by decide) ⟨rfl, rfl, rfl⟩ (hts _ q1469) mW_g10 dX3_findRound_95 ?_
                      refine lv_iload hx hb dX3_findRound_98 (lv_at hl 0 rfl) ?_
                      refine b_agrI hx hb hW 1 17 rfl mW_17 h59 dX3_findRound_100 ?_
                      refine lv_iconst (v := 0) hx hb dX3_findRound_101 (by decide) ?_
                      refine b_iald hx hb hW 1 (18 + ix v53) rfl (mW_r18 (inB_lt h59)) (by decide) dX3_findRound_102 ?_
                      obtain ⟨v60, ev60, hf⟩ := o_ls hf
                      refine b_topi ev60 ?_
                      obtain ⟨Q61, eQ61, hf⟩ := o_ls hf
                      refine b_iast hx hb hW 1 (18 + ix v53) rfl (mW_r18 (inB_lt h59)) (mW_rs18 (inB_lt h59) eQ61) rfl (by decide) dX3_findRound_103 (fun H locs hW => ?_)
                      have hW : bW D g A s H locs [mW g adM kM (some (ad11 0)) M7, mW g ad11 none none Q61] := hW
                      refine lv_iload hx hb dX3_findRound_104 (lv_at hl 3 rfl) ?_
                      refine lv_aload hx hb dX3_findRound_106 (lv_at hl 4 rfl) ?_
                      refine lv_iconst (v := 1) hx hb dX3_findRound_108 (by decide) ?_
                      refine lv_iconst (v := (-1)) hx hb dX3_findRound_109 (by decide) ?_
                      obtain ⟨r62, Q63, hc63, hf⟩ := o_b2s hf
                      have hp63 : List.Perm [mW g adM kM (some (ad11 0)) M7, mW g ad11 none none Q61] ([mW g ad11 none none Q61] ++ [mW g adM kM (some (ad11 0)) M7]) := b_perm [1] [0] 2 rfl rfl rfl rfl
                      refine b_call0 ⟨rfl, rfl⟩ (va_runV (As := [.int 1, .int (-1)]) (rest := [.int v15]) ⟨hx, hb, hml, hown, hts⟩ (m_X3_joyIn l D g H.size ad11 none none fu Q61 1 (-1) r62 Q63 hc63) (cwV 2 hts (lw_V q1922 q1924 qs68 q79 q1925) rfl rfl rfl (by decide +kernel) ⟨Nat.le_of_ble_eq_true rfl, Nat.le_of_ble_eq_true rfl⟩) (b_preV (pp := 1) (q := 0) hW hp63 rfl mW_0 rfl) rfl rfl hl.1 rfl (lv_room (Nat.le_of_ble_eq_true rfl)) dX3_findRound_110 ⟨o_q2 hq12.1, o_q2 hq12.2⟩) hW hp63 (fun _ _ H locs hW => ?_)
                      have hW : bW D g A s H locs [mW g ad11 none none Q63, mW g adM kM (some (ad11 0)) M7] := hW
                      refine lv_iadd hx hb dX3_findRound_113 ?_
                      obtain ⟨v64, ev64, hf⟩ := o_ls hf
                      refine b_topi ev64 ?_
                      refine lv_istore (lv' := [(6, .int v64), (8, .int v53), (5, .int v51), (7, .int v16), (4, .ref (ad11 0)), (3, .int v6), (2, .int v2), (0, .ref (adM 0)), (1, .int x1)]) hx hb dX3_findRound_114 hl (by decide) rfl (fun ls hl => ?_)
                      obtain ⟨v65, ev65, hf⟩ := o_ls hf
                      refine lv_iinc (v := v65) (lv' := [(7, .int v65), (6, .int v64), (8, .int v53), (5, .int v51), (4, .ref (ad11 0)), (3, .int v6), (2, .int v2), (0, .ref (adM 0)), (1, .int x1)]) hx hb dX3_findRound_116 hl (k := 3) rfl ev65 (by decide) rfl (fun ls hl => ?_)
                      refine lv_goto (tgt := 46) hx hb dX3_findRound_119 (by decide) ?_
                      exact ih13 _ _ _ _ _ _ _ (b_perms hW (b_ord [1, 0] 2 rfl rfl rfl)) (lv_sub hl [0, 1, 3, 4, 5, 6, 7, 8] rfl) hf
              exact L13 _ _ _ _ _ _ _ _ hW (lv_sub hl [0, 1, 2, 3, 4, 5, 6, 7] rfl) hf
        exact L5 _ _ _ tQ (0) (0) hq0 _ _ _ hW (lv_sub hl [0, 1, 2, 3] rfl) hf
      · have hf := o_f hf c4
        refine lv_iload_n hx hb dX3_findRound_9 rfl (lv_at hl 1 rfl) ?_
        refine lv_aload_n hx hb dX3_findRound_10 rfl (lv_at hl 2 rfl) ?_
        refine b_get hx hb hts in_X3 hown hW 0 0 3 9 rfl mW_0 rfl (by decide) ⟨rfl, rfl, rfl⟩ (hts _ q1468) mW_g9 dX3_findRound_11 ?_
        refine lv_iconst (v := 1) hx hb dX3_findRound_14 (by decide) ?_
        refine lv_iadd hx hb dX3_findRound_15 ?_
        refine lv_imul hx hb dX3_findRound_16 ?_
        obtain ⟨v66, ev66, hf⟩ := o_ls hf
        refine b_topi ev66 ?_
        refine lv_istore_n (lv' := [(2, .int v66), (3, .int v3), (0, .ref (adM 0)), (1, .int x1)]) hx hb dX3_findRound_17 rfl hl (by decide) rfl (fun ls hl => ?_)
        obtain ⟨v67, ev67, hf⟩ := o_ls hf
        refine lv_iinc (v := v67) (lv' := [(3, .int v67), (2, .int v66), (0, .ref (adM 0)), (1, .int x1)]) hx hb dX3_findRound_18 hl (k := 1) rfl ev67 (by decide) rfl (fun ls hl => ?_)
        refine lv_goto (tgt := 4) hx hb dX3_findRound_21 (by decide) ?_
        exact ih1 _ _ _ _ _ hW (lv_sub hl [0, 1, 2, 3] rfl) hf
  exact L1 _ _ _ _ _ _ hW (lv_sub hl [0, 1, 2, 3] rfl) hf
def f_X3_round (fu : Nat) (M : BC) (To : Option BC) (x1 : Int32) (x2 : Int32) : Option (Int32 × BC × Option BC) :=
 o_b1 (f_X3_in x1.toInt64 1 3) fun (r1 : Int32) =>
 (if r1 = 0 then
 o_b2 (f_X3_refuse M (-2)) fun (r3 : Int32) (M4 : BC) =>
 some ((-1000000) + r3, M4, To)
 else
 o_b1 (f_X3_in x2.toInt64 (-1) ((x1 - 1).toInt64)) fun (r5 : Int32) =>
 (if r5 = 0 then
 o_b2 (f_X3_refuse M (-2)) fun (r15 : Int32) (M16 : BC) =>
 some ((-1000000) + r15, M16, To)
 else
 o_b2 (f_X3_findRound fu M To x1) fun (M7 : BC) (TO8 : Option BC) =>
 o_op TO8 none fun (T11 : BC) =>
 (if x2 = (-1) then
 some (M7.1 0 13, M7, (some T11))
 else
 o_ck (inB x2 3) (some (M7.1 44 (ix x2), M7, (some T11))))))
abbrev rm_X3_round (tQ : Option ((Nat → Nat) × BC)) : Room := { frames := 7, cells := o_k 45 tQ, slots := o_k 842 tQ, locals := 171 }
set_option maxHeartbeats 4000000 in
set_option maxRecDepth 100000 in
theorem m_X3_round (l : Launch) (D : va_G) (g : Nat → ClassId) (sz : Nat) (adM : Nat → Nat) (kM : Option Nat) (tQ : Option ((Nat → Nat) × BC)) (fu : Nat) (M : BC) (x1 : Int32) (x2 : Int32) (rO : Int32) (MO : BC) (TO : Option BC) (hf : f_X3_round fu M (tQ.map Prod.snd) x1 x2 = some (rO, MO, TO)) : bMet (S := Option ((Nat → Nat) × BC)) l yX3_round (ws_ yX3_round cX3_round 3 (some .int)) (rm_X3_round tQ) D g sz [.ref (adM 0), .int x1, .int x2] [mW g adM kM (o_a tQ) M, oM g tQ] (fun tQ1 => tQ1.map Prod.snd = TO) (fun _ => some (.int rO)) (fun tQ1 => [mW g adM kM (o_a tQ1) MO, oM g tQ1]) := by
  refine b_met (by decide) (Nat.le_of_ble_eq_true rfl) ?_
  intro p e s m args below meth c A Q ls hx hb hml hr hlk hown hname hts hE hl hW
  revert hW; generalize s.heap = H; intro hW
  have hl : lv_has ls 3 [(0, .ref (adM 0)), (1, .int x1), (2, .int x2)] := hl
  rw [f_X3_round] at hf
  have hq0 : 0 + o_k 45 tQ ≤ o_k 45 tQ ∧ 0 + o_k 842 tQ ≤ o_k 842 tQ := ⟨Nat.le_of_eq (Nat.zero_add _), Nat.le_of_eq (Nat.zero_add _)⟩
  refine lv_iload_n hx hb dX3_round_0 rfl (lv_at hl 1 rfl) ?_
  refine lv_i2l hx hb dX3_round_1 rfl ?_
  refine lv_lconst (v := 1) hx hb dX3_round_2 (by decide) ?_
  refine lv_ldc2 (v := 3) hx hb hown (hts _ q1961) dX3_round_3 ?_
  obtain ⟨r1, hc1, hf⟩ := o_b1s hf
  have hp1 : List.Perm [mW g adM kM (o_a tQ) M, oM g tQ] ([] ++ [mW g adM kM (o_a tQ) M, oM g tQ]) := b_perm [] [0, 1] 2 rfl rfl rfl rfl
  refine b_call0 ⟨rfl, rfl⟩ (va_runS (As := [.long x1.toInt64, .long 1, .long 3]) (rest := []) ⟨hx, hb, hml, hown, hts⟩ (m_X3_in l D g H.size x1.toInt64 1 3 r1 hc1) (va_cwS 3 hts (lw_S q1567 q1568 q79 q1569) rfl rfl rfl (by decide +kernel) ⟨Nat.le_of_ble_eq_true rfl, Nat.le_of_ble_eq_true rfl⟩) (b_preS hW hp1) rfl rfl hl.1 rfl (lv_room (Nat.le_of_ble_eq_true rfl)) dX3_round_6 ⟨o_q2 hq0.1, o_q2 hq0.2⟩) hW hp1 (fun _ _ H locs hW => ?_)
  have hW : bW D g A s H locs [mW g adM kM (o_a tQ) M, oM g tQ] := hW
  refine lv_if_eq (tgt := 27) hx hb dX3_round_9 (by decide) (fun c2 => ?_) (fun c2 => ?_)
  · have hf := o_t hf c2
    refine lv_ldc (v := (-1000000)) hx hb hown (hts _ q1801) dX3_round_27 ?_
    refine lv_aload_n hx hb dX3_round_29 rfl (lv_at hl 0 rfl) ?_
    refine lv_bipush (v := (-2)) hx hb dX3_round_30 (by decide) ?_
    obtain ⟨r3, M4, hc4, hf⟩ := o_b2s hf
    have hp4 : List.Perm [mW g adM kM (o_a tQ) M, oM g tQ] ([mW g adM kM (o_a tQ) M] ++ [oM g tQ]) := b_perm [0] [1] 2 rfl rfl rfl rfl
    refine b_call0 ⟨rfl, rfl⟩ (va_runV (As := [.int (-2)]) (rest := [.int (-1000000)]) ⟨hx, hb, hml, hown, hts⟩ (m_X3_refuse l D g H.size adM kM (o_a tQ) M (-2) r3 M4 hc4) (cwV 1 hts (lw_V q1572 q1574 qs33 q79 q1575) rfl rfl rfl (by decide +kernel) ⟨Nat.le_of_ble_eq_true rfl, Nat.le_of_ble_eq_true rfl⟩) (b_preV (pp := 0) (q := 0) hW hp4 rfl mW_0 rfl) rfl rfl hl.1 rfl (lv_room (Nat.le_of_ble_eq_true rfl)) dX3_round_32 ⟨o_q2 hq0.1, o_q2 hq0.2⟩) hW hp4 (fun _ _ H locs hW => ?_)
    have hW : bW D g A s H locs [mW g adM kM (o_a tQ) M4, oM g tQ] := hW
    refine lv_iadd hx hb dX3_round_35 ?_
    refine W.widen (k := o_k 45 tQ) (n := o_k 842 tQ) (o_q3 hq0.1) (o_q3 hq0.2) ?_
    cases hf
    exact b_iret hx hb hr hlk hE hW tQ rfl rfl rfl dX3_round_36
  · have hf := o_f hf c2
    refine lv_iload_n hx hb dX3_round_12 rfl (lv_at hl 2 rfl) ?_
    refine lv_i2l hx hb dX3_round_13 rfl ?_
    refine lv_ldc2 (v := (-1)) hx hb hown (hts _ q1659) dX3_round_14 ?_
    refine lv_iload_n hx hb dX3_round_17 rfl (lv_at hl 1 rfl) ?_
    refine lv_iconst (v := 1) hx hb dX3_round_18 (by decide) ?_
    refine lv_isub hx hb dX3_round_19 ?_
    refine lv_i2l hx hb dX3_round_20 rfl ?_
    obtain ⟨r5, hc5, hf⟩ := o_b1s hf
    have hp5 : List.Perm [mW g adM kM (o_a tQ) M, oM g tQ] ([] ++ [mW g adM kM (o_a tQ) M, oM g tQ]) := b_perm [] [0, 1] 2 rfl rfl rfl rfl
    refine b_call0 ⟨rfl, rfl⟩ (va_runS (As := [.long x2.toInt64, .long (-1), .long ((x1 - 1).toInt64)]) (rest := []) ⟨hx, hb, hml, hown, hts⟩ (m_X3_in l D g H.size x2.toInt64 (-1) ((x1 - 1).toInt64) r5 hc5) (va_cwS 3 hts (lw_S q1567 q1568 q79 q1569) rfl rfl rfl (by decide +kernel) ⟨Nat.le_of_ble_eq_true rfl, Nat.le_of_ble_eq_true rfl⟩) (b_preS hW hp5) rfl rfl hl.1 rfl (lv_room (Nat.le_of_ble_eq_true rfl)) dX3_round_21 ⟨o_q2 hq0.1, o_q2 hq0.2⟩) hW hp5 (fun _ _ H locs hW => ?_)
    have hW : bW D g A s H locs [mW g adM kM (o_a tQ) M, oM g tQ] := hW
    refine lv_if_ne (tgt := 37) hx hb dX3_round_24 (by decide) (fun c6 => ?_) (fun c6 => ?_)
    · have hf := o_f hf c6
      refine lv_aload_n hx hb dX3_round_37 rfl (lv_at hl 0 rfl) ?_
      refine lv_iload_n hx hb dX3_round_38 rfl (lv_at hl 1 rfl) ?_
      obtain ⟨M7, TO8, hc8, hf⟩ := o_b2s hf
      have hp8 : List.Perm [mW g adM kM (o_a tQ) M, oM g tQ] ([mW g adM kM (o_a tQ) M, oM g tQ] ++ []) := b_perm [0, 1] [] 2 rfl rfl rfl rfl
      refine b_call (va_runV (As := [.int x1]) (rest := []) ⟨hx, hb, hml, hown, hts⟩ (m_X3_findRound l D g H.size adM kM tQ fu M x1 M7 TO8 hc8) (cwV 1 hts (lw_V q1962 q1964 qs72 q79 q1965) rfl rfl rfl (by decide +kernel) ⟨Nat.le_of_ble_eq_true rfl, Nat.le_of_ble_eq_true rfl⟩) (b_preV (pp := 0) (q := 0) hW hp8 rfl mW_0 rfl) rfl rfl hl.1 rfl (lv_room (Nat.le_of_ble_eq_true rfl)) dX3_round_39 ⟨hq0.1, hq0.2⟩) hW hp8 (fun tq9 htq9 H locs hW => ?_)
      subst htq9
      refine W.cs (cells' := (0 + o_k 45 tQ)) (slots' := (0 + o_k 842 tQ)) rfl rfl ?_
      have hW : bW D g A s H locs [mW g adM kM (o_a tq9) M7, oM g tq9] := hW
      obtain ⟨ad10, T11, rfl⟩ := o_qs hf
      have hf := o_ops hf rfl
      have hq12 : (0 + o_k 45 tQ) + o_k 45 (some (ad10, T11)) ≤ o_k 45 tQ ∧ (0 + o_k 842 tQ) + o_k 842 (some (ad10, T11)) ≤ o_k 842 tQ := hq0
      have hW : bW D g A s H locs [mW g adM kM (some (ad10 0)) M7, mW g ad10 none none T11] := hW
      refine lv_iload_n hx hb dX3_round_42 rfl (lv_at hl 2 rfl) ?_
      refine lv_iconst (v := (-1)) hx hb dX3_round_43 (by decide) ?_
      refine lv_icmp_ne (tgt := 54) hx hb dX3_round_44 (by decide) (fun c13 => ?_) (fun c13 => ?_)
      · have hf := o_f hf c13
        refine lv_aload_n hx hb dX3_round_54 rfl (lv_at hl 0 rfl) ?_
        refine b_get hx hb hts in_X3 hown hW 0 0 3 33 rfl mW_0 rfl (by decide) ⟨rfl, rfl, rfl⟩ (hts _ q1492) mW_g33 dX3_round_55 ?_
        refine lv_iload_n hx hb dX3_round_58 rfl (lv_at hl 2 rfl) ?_
        obtain ⟨h14, hf⟩ := o_cs hf
        refine b_iald hx hb hW 0 44 rfl mW_44 h14 dX3_round_59 ?_
        refine W.widen (k := o_k 45 tQ) (n := o_k 842 tQ) (o_q3 hq12.1) (o_q3 hq12.2) ?_
        cases hf
        exact b_iret hx hb hr hlk hE hW (some (ad10, T11)) rfl rfl rfl dX3_round_60
      · have hf := o_t hf c13
        refine lv_aload_n hx hb dX3_round_47 rfl (lv_at hl 0 rfl) ?_
        refine b_get hx hb hts in_X3 hown hW 0 0 3 32 rfl mW_0 rfl (by decide) ⟨rfl, rfl, rfl⟩ (hts _ q1491) mW_g32 dX3_round_48 ?_
        refine lv_goto (tgt := 60) hx hb dX3_round_51 (by decide) ?_
        refine W.widen (k := o_k 45 tQ) (n := o_k 842 tQ) (o_q3 hq12.1) (o_q3 hq12.2) ?_
        cases hf
        exact b_iret hx hb hr hlk hE hW (some (ad10, T11)) rfl rfl rfl dX3_round_60
    · have hf := o_t hf c6
      refine lv_ldc (v := (-1000000)) hx hb hown (hts _ q1801) dX3_round_27 ?_
      refine lv_aload_n hx hb dX3_round_29 rfl (lv_at hl 0 rfl) ?_
      refine lv_bipush (v := (-2)) hx hb dX3_round_30 (by decide) ?_
      obtain ⟨r15, M16, hc16, hf⟩ := o_b2s hf
      have hp16 : List.Perm [mW g adM kM (o_a tQ) M, oM g tQ] ([mW g adM kM (o_a tQ) M] ++ [oM g tQ]) := b_perm [0] [1] 2 rfl rfl rfl rfl
      refine b_call0 ⟨rfl, rfl⟩ (va_runV (As := [.int (-2)]) (rest := [.int (-1000000)]) ⟨hx, hb, hml, hown, hts⟩ (m_X3_refuse l D g H.size adM kM (o_a tQ) M (-2) r15 M16 hc16) (cwV 1 hts (lw_V q1572 q1574 qs33 q79 q1575) rfl rfl rfl (by decide +kernel) ⟨Nat.le_of_ble_eq_true rfl, Nat.le_of_ble_eq_true rfl⟩) (b_preV (pp := 0) (q := 0) hW hp16 rfl mW_0 rfl) rfl rfl hl.1 rfl (lv_room (Nat.le_of_ble_eq_true rfl)) dX3_round_32 ⟨o_q2 hq0.1, o_q2 hq0.2⟩) hW hp16 (fun _ _ H locs hW => ?_)
      have hW : bW D g A s H locs [mW g adM kM (o_a tQ) M16, oM g tQ] := hW
      refine lv_iadd hx hb dX3_round_35 ?_
      refine W.widen (k := o_k 45 tQ) (n := o_k 842 tQ) (o_q3 hq0.1) (o_q3 hq0.2) ?_
      cases hf
      exact b_iret hx hb hr hlk hE hW tQ rfl rfl rfl dX3_round_36
def f_X3_kept (fu : Nat) (M : BC) (To : Option BC) (x1 : Int32) (x2 : Int32) : Option (Int32 × BC × Option BC) :=
 o_b1 (f_X3_isYears x1) fun (r1 : Int32) =>
 (if r1 = 0 then
 o_b2 (f_X3_refuse M (-2)) fun (r3 : Int32) (M4 : BC) =>
 some ((-1000000) + r3, M4, To)
 else
 o_b1 (f_X3_isInn M x2) fun (r5 : Int32) =>
 (if r5 = 0 then
 o_b2 (f_X3_refuse M (-2)) fun (r22 : Int32) (M23 : BC) =>
 some ((-1000000) + r22, M23, To)
 else
 o_ck (inB x2 6) ((if (M.1 (18 + ix x2) (ix 4)) = (-1) then
 o_b2 (f_X3_refuse M (-5)) fun (r20 : Int32) (M21 : BC) =>
 some ((-1000000) + r20, M21, To)
 else
 o_b1 (f_X3_fresh fu M To) fun (T9 : BC) =>
 o_b2 (f_X3_ownJoy fu T9 x1) fun (r12 : Int32) (Q13 : BC) =>
 o_b1 (f_X3_fresh fu M (some Q13)) fun (T14 : BC) =>
 o_lt (bI T14 (18 + ix x2) (upd (T14.1 (18 + ix x2)) (ix 4) (-1))) fun (Q17 : BC) =>
 o_b2 (f_X3_ownJoy fu Q17 x1) fun (r18 : Int32) (Q19 : BC) =>
 some (r18 - r12, M, (some Q19))))))
abbrev rm_X3_kept (tQ : Option ((Nat → Nat) × BC)) : Room := { frames := 6, cells := o_k 45 tQ, slots := o_k 842 tQ, locals := 143 }
set_option maxHeartbeats 4000000 in
set_option maxRecDepth 100000 in
theorem m_X3_kept (l : Launch) (D : va_G) (g : Nat → ClassId) (sz : Nat) (adM : Nat → Nat) (kM : Option Nat) (tQ : Option ((Nat → Nat) × BC)) (fu : Nat) (M : BC) (x1 : Int32) (x2 : Int32) (rO : Int32) (MO : BC) (TO : Option BC) (hf : f_X3_kept fu M (tQ.map Prod.snd) x1 x2 = some (rO, MO, TO)) : bMet (S := Option ((Nat → Nat) × BC)) l yX3_kept (ws_ yX3_kept cX3_kept 5 (some .int)) (rm_X3_kept tQ) D g sz [.ref (adM 0), .int x1, .int x2] [mW g adM kM (o_a tQ) M, oM g tQ] (fun tQ1 => tQ1.map Prod.snd = TO) (fun _ => some (.int rO)) (fun tQ1 => [mW g adM kM (o_a tQ1) MO, oM g tQ1]) := by
  refine b_met (by decide) (Nat.le_of_ble_eq_true rfl) ?_
  intro p e s m args below meth c A Q ls hx hb hml hr hlk hown hname hts hE hl hW
  revert hW; generalize s.heap = H; intro hW
  have hl : lv_has ls 5 [(0, .ref (adM 0)), (1, .int x1), (2, .int x2)] := hl
  rw [f_X3_kept] at hf
  have hq0 : 0 + o_k 45 tQ ≤ o_k 45 tQ ∧ 0 + o_k 842 tQ ≤ o_k 842 tQ := ⟨Nat.le_of_eq (Nat.zero_add _), Nat.le_of_eq (Nat.zero_add _)⟩
  refine lv_iload_n hx hb dX3_kept_0 rfl (lv_at hl 1 rfl) ?_
  obtain ⟨r1, hc1, hf⟩ := o_b1s hf
  have hp1 : List.Perm [mW g adM kM (o_a tQ) M, oM g tQ] ([] ++ [mW g adM kM (o_a tQ) M, oM g tQ]) := b_perm [] [0, 1] 2 rfl rfl rfl rfl
  refine b_call0 ⟨rfl, rfl⟩ (va_runS (As := [.int x1]) (rest := []) ⟨hx, hb, hml, hown, hts⟩ (m_X3_isYears l D g H.size x1 r1 hc1) (va_cwS 1 hts (lw_S q1918 q1919 q79 q1920) rfl rfl rfl (by decide +kernel) ⟨Nat.le_of_ble_eq_true rfl, Nat.le_of_ble_eq_true rfl⟩) (b_preS hW hp1) rfl rfl hl.1 rfl (lv_room (Nat.le_of_ble_eq_true rfl)) dX3_kept_1 ⟨o_q2 hq0.1, o_q2 hq0.2⟩) hW hp1 (fun _ _ H locs hW => ?_)
  have hW : bW D g A s H locs [mW g adM kM (o_a tQ) M, oM g tQ] := hW
  refine lv_if_eq (tgt := 15) hx hb dX3_kept_4 (by decide) (fun c2 => ?_) (fun c2 => ?_)
  · have hf := o_t hf c2
    refine lv_ldc (v := (-1000000)) hx hb hown (hts _ q1801) dX3_kept_15 ?_
    refine lv_aload_n hx hb dX3_kept_17 rfl (lv_at hl 0 rfl) ?_
    refine lv_bipush (v := (-2)) hx hb dX3_kept_18 (by decide) ?_
    obtain ⟨r3, M4, hc4, hf⟩ := o_b2s hf
    have hp4 : List.Perm [mW g adM kM (o_a tQ) M, oM g tQ] ([mW g adM kM (o_a tQ) M] ++ [oM g tQ]) := b_perm [0] [1] 2 rfl rfl rfl rfl
    refine b_call0 ⟨rfl, rfl⟩ (va_runV (As := [.int (-2)]) (rest := [.int (-1000000)]) ⟨hx, hb, hml, hown, hts⟩ (m_X3_refuse l D g H.size adM kM (o_a tQ) M (-2) r3 M4 hc4) (cwV 1 hts (lw_V q1572 q1574 qs33 q79 q1575) rfl rfl rfl (by decide +kernel) ⟨Nat.le_of_ble_eq_true rfl, Nat.le_of_ble_eq_true rfl⟩) (b_preV (pp := 0) (q := 0) hW hp4 rfl mW_0 rfl) rfl rfl hl.1 rfl (lv_room (Nat.le_of_ble_eq_true rfl)) dX3_kept_20 ⟨o_q2 hq0.1, o_q2 hq0.2⟩) hW hp4 (fun _ _ H locs hW => ?_)
    have hW : bW D g A s H locs [mW g adM kM (o_a tQ) M4, oM g tQ] := hW
    refine lv_iadd hx hb dX3_kept_23 ?_
    refine W.widen (k := o_k 45 tQ) (n := o_k 842 tQ) (o_q3 hq0.1) (o_q3 hq0.2) ?_
    cases hf
    exact b_iret hx hb hr hlk hE hW tQ rfl rfl rfl dX3_kept_24
  · have hf := o_f hf c2
    refine lv_aload_n hx hb dX3_kept_7 rfl (lv_at hl 0 rfl) ?_
    refine lv_iload_n hx hb dX3_kept_8 rfl (lv_at hl 2 rfl) ?_
    obtain ⟨r5, hc5, hf⟩ := o_b1s hf
    have hp5 : List.Perm [mW g adM kM (o_a tQ) M, oM g tQ] ([mW g adM kM (o_a tQ) M] ++ [oM g tQ]) := b_perm [0] [1] 2 rfl rfl rfl rfl
    refine b_call0 ⟨rfl, rfl⟩ (va_runV (As := [.int x2]) (rest := []) ⟨hx, hb, hml, hown, hts⟩ (m_X3_isInn l D g H.size adM kM (o_a tQ) M x2 r5 hc5) (cwV 1 hts (lw_V q1651 q1653 qs41 q79 q1654) rfl rfl rfl (by decide +kernel) ⟨Nat.le_of_ble_eq_true rfl, Nat.le_of_ble_eq_true rfl⟩) (b_preV (pp := 0) (q := 0) hW hp5 rfl mW_0 rfl) rfl rfl hl.1 rfl (lv_room (Nat.le_of_ble_eq_true rfl)) dX3_kept_9 ⟨o_q2 hq0.1, o_q2 hq0.2⟩) hW hp5 (fun _ _ H locs hW => ?_)
    have hW : bW D g A s H locs [mW g adM kM (o_a tQ) M, oM g tQ] := hW
    refine lv_if_ne (tgt := 25) hx hb dX3_kept_12 (by decide) (fun c6 => ?_) (fun c6 => ?_)
    · have hf := o_f hf c6
      refine lv_aload_n hx hb dX3_kept_25 rfl (lv_at hl 0 rfl) ?_
      refine b_get hx hb hts in_X3 hown hW 0 0 3 10 rfl mW_0 rfl (by decide) ⟨rfl, rfl, rfl⟩ (hts _ q1469) mW_g10 dX3_kept_26 ?_
      refine lv_iload_n hx hb dX3_kept_29 rfl (lv_at hl 2 rfl) ?_
      obtain ⟨h7, hf⟩ := o_cs hf
      refine b_agrI hx hb hW 0 17 rfl mW_17 h7 dX3_kept_30 ?_
      refine lv_iconst (v := 4) hx hb dX3_kept_31 (by decide) ?_
      refine b_iald hx hb hW 0 (18 + ix x2) rfl (mW_r18 (inB_lt h7)) (by decide) dX3_kept_32 ?_
      refine lv_iconst (v := (-1)) hx hb dX3_kept_33 (by decide) ?_
      refine lv_icmp_ne (tgt := 47) hx hb dX3_kept_34 (by decide) (fun c8 => ?_) (fun c8 => ?_)
      · have hf := o_f hf c8
        refine lv_aload_n hx hb dX3_kept_47 rfl (lv_at hl 0 rfl) ?_
        obtain ⟨T9, hc10, hf⟩ := o_b1s hf
        have hp10 : List.Perm [mW g adM kM (o_a tQ) M, oM g tQ] ([mW g adM kM (o_a tQ) M, oM g tQ] ++ []) := b_perm [0, 1] [] 2 rfl rfl rfl rfl
        refine b_call (va_runV (As := []) (rest := []) ⟨hx, hb, hml, hown, hts⟩ (m_X3_fresh l D g H.size adM kM tQ fu M T9 hc10) (cwV 0 hts (lw_V q1701 q1703 qs45 q79 q1704) rfl rfl rfl (by decide +kernel) ⟨Nat.le_of_ble_eq_true rfl, Nat.le_of_ble_eq_true rfl⟩) (b_preV (pp := 0) (q := 0) hW hp10 rfl mW_0 rfl) rfl rfl hl.1 rfl (lv_room (Nat.le_of_ble_eq_true rfl)) dX3_kept_48 ⟨hq0.1, hq0.2⟩) hW hp10 (fun ad10 _ H locs hW => ?_)
        refine W.cs (cells' := (0 + o_k 45 tQ)) (slots' := (0 + o_k 842 tQ)) rfl rfl ?_
        have hq11 : (0 + o_k 45 tQ) + o_k 45 (some (ad10, T9)) ≤ o_k 45 tQ ∧ (0 + o_k 842 tQ) + o_k 842 (some (ad10, T9)) ≤ o_k 842 tQ := hq0
        have hW : bW D g A s H locs [mW g adM kM (some (ad10 0)) M, mW g ad10 none none T9] := hW
        refine lv_iload_n hx hb dX3_kept_51 rfl (lv_at hl 1 rfl) ?_
        obtain ⟨r12, Q13, hc13, hf⟩ := o_b2s hf
        have hp13 : List.Perm [mW g adM kM (some (ad10 0)) M, mW g ad10 none none T9] ([mW g ad10 none none T9] ++ [mW g adM kM (some (ad10 0)) M]) := b_perm [1] [0] 2 rfl rfl rfl rfl
        refine b_call0 ⟨rfl, rfl⟩ (va_runV (As := [.int x1]) (rest := []) ⟨hx, hb, hml, hown, hts⟩ (m_X3_ownJoy l D g H.size ad10 none none fu T9 x1 r12 Q13 hc13) (cwV 1 hts (lw_V q1970 q1972 qs73 q79 q1973) rfl rfl rfl (by decide +kernel) ⟨Nat.le_of_ble_eq_true rfl, Nat.le_of_ble_eq_true rfl⟩) (b_preV (pp := 1) (q := 0) hW hp13 rfl mW_0 rfl) rfl rfl hl.1 rfl (lv_room (Nat.le_of_ble_eq_true rfl)) dX3_kept_52 ⟨o_q2 hq11.1, o_q2 hq11.2⟩) hW hp13 (fun _ _ H locs hW => ?_)
        have hW : bW D g A s H locs [mW g ad10 none none Q13, mW g adM kM (some (ad10 0)) M] := hW
        refine lv_istore_n (lv' := [(3, .int r12), (0, .ref (adM 0)), (1, .int x1), (2, .int x2)]) hx hb dX3_kept_55 rfl hl (by decide) rfl (fun ls hl => ?_)
        refine lv_aload_n hx hb dX3_kept_56 rfl (lv_at hl 1 rfl) ?_
        obtain ⟨T14, hc15, hf⟩ := o_b1s hf
        have hp15 : List.Perm [mW g ad10 none none Q13, mW g adM kM (some (ad10 0)) M] ([mW g adM kM (some (ad10 0)) M, mW g ad10 none none Q13] ++ []) := b_perm [1, 0] [] 2 rfl rfl rfl rfl
        refine b_call (va_runV (As := []) (rest := []) ⟨hx, hb, hml, hown, hts⟩ (m_X3_fresh l D g H.size adM kM (some (ad10, Q13)) fu M T14 hc15) (cwV 0 hts (lw_V q1701 q1703 qs45 q79 q1704) rfl rfl rfl (by decide +kernel) ⟨Nat.le_of_ble_eq_true rfl, Nat.le_of_ble_eq_true rfl⟩) (b_preV (pp := 1) (q := 0) hW hp15 rfl mW_0 rfl) rfl rfl hl.1 rfl (lv_room (Nat.le_of_ble_eq_true rfl)) dX3_kept_57 ⟨hq11.1, hq11.2⟩) hW hp15 (fun ad15 _ H locs hW => ?_)
        refine W.cs (cells' := ((0 + o_k 45 tQ) + o_k 45 (some (ad10, Q13)))) (slots' := ((0 + o_k 842 tQ) + o_k 842 (some (ad10, Q13)))) rfl rfl ?_
        have hq16 : ((0 + o_k 45 tQ) + o_k 45 (some (ad10, Q13))) + o_k 45 (some (ad15, T14)) ≤ o_k 45 tQ ∧ ((0 + o_k 842 tQ) + o_k 842 (some (ad10, Q13))) + o_k 842 (some (ad15, T14)) ≤ o_k 842 tQ := hq11
        have hW : bW D g A s H locs [mW g adM kM (some (ad15 0)) M, mW g ad15 none none T14] := hW
        refine lv_astore (lv' := [(4, .ref (ad15 0)), (3, .int r12), (0, .ref (adM 0)), (1, .int x1), (2, .int x2)]) hx hb dX3_kept_60 hl (by decide) rfl (fun ls hl => ?_)
        refine lv_aload hx hb dX3_kept_62 (lv_at hl 0 rfl) ?_
        refine b_get hx hb hts in_X3 hown hW 1 0 3 10 rfl mW_0 rfl (by decide) ⟨rfl, rfl, rfl⟩ (hts _ q1469) mW_g10 dX3_kept_64 ?_
        refine lv_iload_n hx hb dX3_kept_67 rfl (lv_at hl 4 rfl) ?_
        refine b_agrI hx hb hW 1 17 rfl mW_17 h7 dX3_kept_68 ?_
        refine lv_iconst (v := 4) hx hb dX3_kept_69 (by decide) ?_
        refine lv_iconst (v := (-1)) hx hb dX3_kept_70 (by decide) ?_
        obtain ⟨Q17, eQ17, hf⟩ := o_ls hf
        refine b_iast hx hb hW 1 (18 + ix x2) rfl (mW_r18 (inB_lt h7)) (mW_rs18 (inB_lt h7) eQ17) rfl (by decide) dX3_kept_71 (fun H locs hW => ?_)
        have hW : bW D g A s H locs [mW g adM kM (some (ad15 0)) M, mW g ad15 none none Q17] := hW
        refine lv_aload hx hb dX3_kept_72 (lv_at hl 0 rfl) ?_
        refine lv_iload_n hx hb dX3_kept_74 rfl (lv_at hl 3 rfl) ?_
        obtain ⟨r18, Q19, hc19, hf⟩ := o_b2s hf
        have hp19 : List.Perm [mW g adM kM (some (ad15 0)) M, mW g ad15 none none Q17] ([mW g ad15 none none Q17] ++ [mW g adM kM (some (ad15 0)) M]) := b_perm [1] [0] 2 rfl rfl rfl rfl
        refine b_call0 ⟨rfl, rfl⟩ (va_runV (As := [.int x1]) (rest := []) ⟨hx, hb, hml, hown, hts⟩ (m_X3_ownJoy l D g H.size ad15 none none fu Q17 x1 r18 Q19 hc19) (cwV 1 hts (lw_V q1970 q1972 qs73 q79 q1973) rfl rfl rfl (by decide +kernel) ⟨Nat.le_of_ble_eq_true rfl, Nat.le_of_ble_eq_true rfl⟩) (b_preV (pp := 1) (q := 0) hW hp19 rfl mW_0 rfl) rfl rfl hl.1 rfl (lv_room (Nat.le_of_ble_eq_true rfl)) dX3_kept_75 ⟨o_q2 hq16.1, o_q2 hq16.2⟩) hW hp19 (fun _ _ H locs hW => ?_)
        have hW : bW D g A s H locs [mW g ad15 none none Q19, mW g adM kM (some (ad15 0)) M] := hW
        refine lv_iload_n hx hb dX3_kept_78 rfl (lv_at hl 1 rfl) ?_
        refine lv_isub hx hb dX3_kept_79 ?_
        refine W.widen (k := o_k 45 tQ) (n := o_k 842 tQ) (o_q3 hq16.1) (o_q3 hq16.2) ?_
        cases hf
        exact b_iret hx hb hr hlk hE (b_perms hW (b_ord [1, 0] 2 rfl rfl rfl)) (some (ad15, Q19)) rfl rfl rfl dX3_kept_80
      · have hf := o_t hf c8
        refine lv_ldc (v := (-1000000)) hx hb hown (hts _ q1801) dX3_kept_37 ?_
        refine lv_aload_n hx hb dX3_kept_39 rfl (lv_at hl 0 rfl) ?_
        refine lv_bipush (v := (-5)) hx hb dX3_kept_40 (by decide) ?_
        obtain ⟨r20, M21, hc21, hf⟩ := o_b2s hf
        have hp21 : List.Perm [mW g adM kM (o_a tQ) M, oM g tQ] ([mW g adM kM (o_a tQ) M] ++ [oM g tQ]) := b_perm [0] [1] 2 rfl rfl rfl rfl
        refine b_call0 ⟨rfl, rfl⟩ (va_runV (As := [.int (-5)]) (rest := [.int (-1000000)]) ⟨hx, hb, hml, hown, hts⟩ (m_X3_refuse l D g H.size adM kM (o_a tQ) M (-5) r20 M21 hc21) (cwV 1 hts (lw_V q1572 q1574 qs33 q79 q1575) rfl rfl rfl (by decide +kernel) ⟨Nat.le_of_ble_eq_true rfl, Nat.le_of_ble_eq_true rfl⟩) (b_preV (pp := 0) (q := 0) hW hp21 rfl mW_0 rfl) rfl rfl hl.1 rfl (lv_room (Nat.le_of_ble_eq_true rfl)) dX3_kept_42 ⟨o_q2 hq0.1, o_q2 hq0.2⟩) hW hp21 (fun _ _ H locs hW => ?_)
        have hW : bW D g A s H locs [mW g adM kM (o_a tQ) M21, oM g tQ] := hW
        refine lv_iadd hx hb dX3_kept_45 ?_
        refine W.widen (k := o_k 45 tQ) (n := o_k 842 tQ) (o_q3 hq0.1) (o_q3 hq0.2) ?_
        cases hf
        exact b_iret hx hb hr hlk hE hW tQ rfl rfl rfl dX3_kept_46
    · have hf := o_t hf c6
      refine lv_ldc (v := (-1000000)) hx hb hown (hts _ q1801) dX3_kept_15 ?_
      refine lv_aload_n hx hb dX3_kept_17 rfl (lv_at hl 0 rfl) ?_
      refine lv_bipush (v := (-2)) hx hb dX3_kept_18 (by decide) ?_
      obtain ⟨r22, M23, hc23, hf⟩ := o_b2s hf
      have hp23 : List.Perm [mW g adM kM (o_a tQ) M, oM g tQ] ([mW g adM kM (o_a tQ) M] ++ [oM g tQ]) := b_perm [0] [1] 2 rfl rfl rfl rfl
      refine b_call0 ⟨rfl, rfl⟩ (va_runV (As := [.int (-2)]) (rest := [.int (-1000000)]) ⟨hx, hb, hml, hown, hts⟩ (m_X3_refuse l D g H.size adM kM (o_a tQ) M (-2) r22 M23 hc23) (cwV 1 hts (lw_V q1572 q1574 qs33 q79 q1575) rfl rfl rfl (by decide +kernel) ⟨Nat.le_of_ble_eq_true rfl, Nat.le_of_ble_eq_true rfl⟩) (b_preV (pp := 0) (q := 0) hW hp23 rfl mW_0 rfl) rfl rfl hl.1 rfl (lv_room (Nat.le_of_ble_eq_true rfl)) dX3_kept_20 ⟨o_q2 hq0.1, o_q2 hq0.2⟩) hW hp23 (fun _ _ H locs hW => ?_)
      have hW : bW D g A s H locs [mW g adM kM (o_a tQ) M23, oM g tQ] := hW
      refine lv_iadd hx hb dX3_kept_23 ?_
      refine W.widen (k := o_k 45 tQ) (n := o_k 842 tQ) (o_q3 hq0.1) (o_q3 hq0.2) ?_
      cases hf
      exact b_iret hx hb hr hlk hE hW tQ rfl rfl rfl dX3_kept_24
def f_X3_called (fu : Nat) (M : BC) (To : Option BC) (x1 : Int32) (x2 : Int32) (x3 : Int32) : Option (Int32 × BC × Option BC) :=
 o_b1 (f_X3_isYears x1) fun (r1 : Int32) =>
 (if r1 = 0 then
 o_b2 (f_X3_refuse M (-2)) fun (r3 : Int32) (M4 : BC) =>
 some ((-1000000) + r3, M4, To)
 else
 o_b1 (f_X3_isInn M x2) fun (r5 : Int32) =>
 (if r5 = 0 then
 o_b2 (f_X3_refuse M (-2)) fun (r7 : Int32) (M8 : BC) =>
 some ((-1000000) + r7, M8, To)
 else
 o_b1 (f_X3_in x3.toInt64 0 100) fun (r9 : Int32) =>
 (if r9 = 0 then
 o_b2 (f_X3_refuse M (-2)) fun (r23 : Int32) (M24 : BC) =>
 some ((-1000000) + r23, M24, To)
 else
 o_b1 (f_X3_fresh fu M To) fun (T11 : BC) =>
 o_b2 (f_X3_joyIn fu T11 x1 (-1)) fun (r14 : Int32) (Q15 : BC) =>
 o_b1 (f_X3_fresh fu M (some Q15)) fun (T16 : BC) =>
 o_ck (inB x2 6) (o_lt (bI T16 (18 + ix x2) (upd (T16.1 (18 + ix x2)) (ix 4) x3)) fun (Q20 : BC) =>
 o_b2 (f_X3_joyIn fu Q20 x1 (-1)) fun (r21 : Int32) (Q22 : BC) =>
 some (r21 - r14, M, (some Q22))))))
abbrev rm_X3_called (tQ : Option ((Nat → Nat) × BC)) : Room := { frames := 6, cells := o_k 45 tQ, slots := o_k 842 tQ, locals := 143 }
set_option maxHeartbeats 4000000 in
set_option maxRecDepth 100000 in
theorem m_X3_called (l : Launch) (D : va_G) (g : Nat → ClassId) (sz : Nat) (adM : Nat → Nat) (kM : Option Nat) (tQ : Option ((Nat → Nat) × BC)) (fu : Nat) (M : BC) (x1 : Int32) (x2 : Int32) (x3 : Int32) (rO : Int32) (MO : BC) (TO : Option BC) (hf : f_X3_called fu M (tQ.map Prod.snd) x1 x2 x3 = some (rO, MO, TO)) : bMet (S := Option ((Nat → Nat) × BC)) l yX3_called (ws_ yX3_called cX3_called 6 (some .int)) (rm_X3_called tQ) D g sz [.ref (adM 0), .int x1, .int x2, .int x3] [mW g adM kM (o_a tQ) M, oM g tQ] (fun tQ1 => tQ1.map Prod.snd = TO) (fun _ => some (.int rO)) (fun tQ1 => [mW g adM kM (o_a tQ1) MO, oM g tQ1]) := by
  refine b_met (by decide) (Nat.le_of_ble_eq_true rfl) ?_
  intro p e s m args below meth c A Q ls hx hb hml hr hlk hown hname hts hE hl hW
  revert hW; generalize s.heap = H; intro hW
  have hl : lv_has ls 6 [(0, .ref (adM 0)), (1, .int x1), (2, .int x2), (3, .int x3)] := hl
  rw [f_X3_called] at hf
  have hq0 : 0 + o_k 45 tQ ≤ o_k 45 tQ ∧ 0 + o_k 842 tQ ≤ o_k 842 tQ := ⟨Nat.le_of_eq (Nat.zero_add _), Nat.le_of_eq (Nat.zero_add _)⟩
  refine lv_iload_n hx hb dX3_called_0 rfl (lv_at hl 1 rfl) ?_
  obtain ⟨r1, hc1, hf⟩ := o_b1s hf
  have hp1 : List.Perm [mW g adM kM (o_a tQ) M, oM g tQ] ([] ++ [mW g adM kM (o_a tQ) M, oM g tQ]) := b_perm [] [0, 1] 2 rfl rfl rfl rfl
  refine b_call0 ⟨rfl, rfl⟩ (va_runS (As := [.int x1]) (rest := []) ⟨hx, hb, hml, hown, hts⟩ (m_X3_isYears l D g H.size x1 r1 hc1) (va_cwS 1 hts (lw_S q1918 q1919 q79 q1920) rfl rfl rfl (by decide +kernel) ⟨Nat.le_of_ble_eq_true rfl, Nat.le_of_ble_eq_true rfl⟩) (b_preS hW hp1) rfl rfl hl.1 rfl (lv_room (Nat.le_of_ble_eq_true rfl)) dX3_called_1 ⟨o_q2 hq0.1, o_q2 hq0.2⟩) hW hp1 (fun _ _ H locs hW => ?_)
  have hW : bW D g A s H locs [mW g adM kM (o_a tQ) M, oM g tQ] := hW
  refine lv_if_eq (tgt := 27) hx hb dX3_called_4 (by decide) (fun c2 => ?_) (fun c2 => ?_)
  · have hf := o_t hf c2
    refine lv_ldc (v := (-1000000)) hx hb hown (hts _ q1801) dX3_called_27 ?_
    refine lv_aload_n hx hb dX3_called_29 rfl (lv_at hl 0 rfl) ?_
    refine lv_bipush (v := (-2)) hx hb dX3_called_30 (by decide) ?_
    obtain ⟨r3, M4, hc4, hf⟩ := o_b2s hf
    have hp4 : List.Perm [mW g adM kM (o_a tQ) M, oM g tQ] ([mW g adM kM (o_a tQ) M] ++ [oM g tQ]) := b_perm [0] [1] 2 rfl rfl rfl rfl
    refine b_call0 ⟨rfl, rfl⟩ (va_runV (As := [.int (-2)]) (rest := [.int (-1000000)]) ⟨hx, hb, hml, hown, hts⟩ (m_X3_refuse l D g H.size adM kM (o_a tQ) M (-2) r3 M4 hc4) (cwV 1 hts (lw_V q1572 q1574 qs33 q79 q1575) rfl rfl rfl (by decide +kernel) ⟨Nat.le_of_ble_eq_true rfl, Nat.le_of_ble_eq_true rfl⟩) (b_preV (pp := 0) (q := 0) hW hp4 rfl mW_0 rfl) rfl rfl hl.1 rfl (lv_room (Nat.le_of_ble_eq_true rfl)) dX3_called_32 ⟨o_q2 hq0.1, o_q2 hq0.2⟩) hW hp4 (fun _ _ H locs hW => ?_)
    have hW : bW D g A s H locs [mW g adM kM (o_a tQ) M4, oM g tQ] := hW
    refine lv_iadd hx hb dX3_called_35 ?_
    refine W.widen (k := o_k 45 tQ) (n := o_k 842 tQ) (o_q3 hq0.1) (o_q3 hq0.2) ?_
    cases hf
    exact b_iret hx hb hr hlk hE hW tQ rfl rfl rfl dX3_called_36
  · have hf := o_f hf c2
    refine lv_aload_n hx hb dX3_called_7 rfl (lv_at hl 0 rfl) ?_
    refine lv_iload_n hx hb dX3_called_8 rfl (lv_at hl 2 rfl) ?_
    obtain ⟨r5, hc5, hf⟩ := o_b1s hf
    have hp5 : List.Perm [mW g adM kM (o_a tQ) M, oM g tQ] ([mW g adM kM (o_a tQ) M] ++ [oM g tQ]) := b_perm [0] [1] 2 rfl rfl rfl rfl
    refine b_call0 ⟨rfl, rfl⟩ (va_runV (As := [.int x2]) (rest := []) ⟨hx, hb, hml, hown, hts⟩ (m_X3_isInn l D g H.size adM kM (o_a tQ) M x2 r5 hc5) (cwV 1 hts (lw_V q1651 q1653 qs41 q79 q1654) rfl rfl rfl (by decide +kernel) ⟨Nat.le_of_ble_eq_true rfl, Nat.le_of_ble_eq_true rfl⟩) (b_preV (pp := 0) (q := 0) hW hp5 rfl mW_0 rfl) rfl rfl hl.1 rfl (lv_room (Nat.le_of_ble_eq_true rfl)) dX3_called_9 ⟨o_q2 hq0.1, o_q2 hq0.2⟩) hW hp5 (fun _ _ H locs hW => ?_)
    have hW : bW D g A s H locs [mW g adM kM (o_a tQ) M, oM g tQ] := hW
    refine lv_if_eq (tgt := 27) hx hb dX3_called_12 (by decide) (fun c6 => ?_) (fun c6 => ?_)
    · have hf := o_t hf c6
      refine lv_ldc (v := (-1000000)) hx hb hown (hts _ q1801) dX3_called_27 ?_
      refine lv_aload_n hx hb dX3_called_29 rfl (lv_at hl 0 rfl) ?_
      refine lv_bipush (v := (-2)) hx hb dX3_called_30 (by decide) ?_
      obtain ⟨r7, M8, hc8, hf⟩ := o_b2s hf
      have hp8 : List.Perm [mW g adM kM (o_a tQ) M, oM g tQ] ([mW g adM kM (o_a tQ) M] ++ [oM g tQ]) := b_perm [0] [1] 2 rfl rfl rfl rfl
      refine b_call0 ⟨rfl, rfl⟩ (va_runV (As := [.int (-2)]) (rest := [.int (-1000000)]) ⟨hx, hb, hml, hown, hts⟩ (m_X3_refuse l D g H.size adM kM (o_a tQ) M (-2) r7 M8 hc8) (cwV 1 hts (lw_V q1572 q1574 qs33 q79 q1575) rfl rfl rfl (by decide +kernel) ⟨Nat.le_of_ble_eq_true rfl, Nat.le_of_ble_eq_true rfl⟩) (b_preV (pp := 0) (q := 0) hW hp8 rfl mW_0 rfl) rfl rfl hl.1 rfl (lv_room (Nat.le_of_ble_eq_true rfl)) dX3_called_32 ⟨o_q2 hq0.1, o_q2 hq0.2⟩) hW hp8 (fun _ _ H locs hW => ?_)
      have hW : bW D g A s H locs [mW g adM kM (o_a tQ) M8, oM g tQ] := hW
      refine lv_iadd hx hb dX3_called_35 ?_
      refine W.widen (k := o_k 45 tQ) (n := o_k 842 tQ) (o_q3 hq0.1) (o_q3 hq0.2) ?_
      cases hf
      exact b_iret hx hb hr hlk hE hW tQ rfl rfl rfl dX3_called_36
    · have hf := o_f hf c6
      refine lv_iload_n hx hb dX3_called_15 rfl (lv_at hl 3 rfl) ?_
      refine lv_i2l hx hb dX3_called_16 rfl ?_
      refine lv_lconst (v := 0) hx hb dX3_called_17 (by decide) ?_
      refine lv_ldc2 (v := 100) hx hb hown (hts _ q1635) dX3_called_18 ?_
      obtain ⟨r9, hc9, hf⟩ := o_b1s hf
      have hp9 : List.Perm [mW g adM kM (o_a tQ) M, oM g tQ] ([] ++ [mW g adM kM (o_a tQ) M, oM g tQ]) := b_perm [] [0, 1] 2 rfl rfl rfl rfl
      refine b_call0 ⟨rfl, rfl⟩ (va_runS (As := [.long x3.toInt64, .long 0, .long 100]) (rest := []) ⟨hx, hb, hml, hown, hts⟩ (m_X3_in l D g H.size x3.toInt64 0 100 r9 hc9) (va_cwS 3 hts (lw_S q1567 q1568 q79 q1569) rfl rfl rfl (by decide +kernel) ⟨Nat.le_of_ble_eq_true rfl, Nat.le_of_ble_eq_true rfl⟩) (b_preS hW hp9) rfl rfl hl.1 rfl (lv_room (Nat.le_of_ble_eq_true rfl)) dX3_called_21 ⟨o_q2 hq0.1, o_q2 hq0.2⟩) hW hp9 (fun _ _ H locs hW => ?_)
      have hW : bW D g A s H locs [mW g adM kM (o_a tQ) M, oM g tQ] := hW
      refine lv_if_ne (tgt := 37) hx hb dX3_called_24 (by decide) (fun c10 => ?_) (fun c10 => ?_)
      · have hf := o_f hf c10
        refine lv_aload_n hx hb dX3_called_37 rfl (lv_at hl 0 rfl) ?_
        obtain ⟨T11, hc12, hf⟩ := o_b1s hf
        have hp12 : List.Perm [mW g adM kM (o_a tQ) M, oM g tQ] ([mW g adM kM (o_a tQ) M, oM g tQ] ++ []) := b_perm [0, 1] [] 2 rfl rfl rfl rfl
        refine b_call (va_runV (As := []) (rest := []) ⟨hx, hb, hml, hown, hts⟩ (m_X3_fresh l D g H.size adM kM tQ fu M T11 hc12) (cwV 0 hts (lw_V q1701 q1703 qs45 q79 q1704) rfl rfl rfl (by decide +kernel) ⟨Nat.le_of_ble_eq_true rfl, Nat.le_of_ble_eq_true rfl⟩) (b_preV (pp := 0) (q := 0) hW hp12 rfl mW_0 rfl) rfl rfl hl.1 rfl (lv_room (Nat.le_of_ble_eq_true rfl)) dX3_called_38 ⟨hq0.1, hq0.2⟩) hW hp12 (fun ad12 _ H locs hW => ?_)
        refine W.cs (cells' := (0 + o_k 45 tQ)) (slots' := (0 + o_k 842 tQ)) rfl rfl ?_
        have hq13 : (0 + o_k 45 tQ) + o_k 45 (some (ad12, T11)) ≤ o_k 45 tQ ∧ (0 + o_k 842 tQ) + o_k 842 (some (ad12, T11)) ≤ o_k 842 tQ := hq0
        have hW : bW D g A s H locs [mW g adM kM (some (ad12 0)) M, mW g ad12 none none T11] := hW
        refine lv_iload_n hx hb dX3_called_41 rfl (lv_at hl 1 rfl) ?_
        refine lv_iconst (v := (-1)) hx hb dX3_called_42 (by decide) ?_
        obtain ⟨r14, Q15, hc15, hf⟩ := o_b2s hf
        have hp15 : List.Perm [mW g adM kM (some (ad12 0)) M, mW g ad12 none none T11] ([mW g ad12 none none T11] ++ [mW g adM kM (some (ad12 0)) M]) := b_perm [1] [0] 2 rfl rfl rfl rfl
        refine b_call0 ⟨rfl, rfl⟩ (va_runV (As := [.int x1, .int (-1)]) (rest := []) ⟨hx, hb, hml, hown, hts⟩ (m_X3_joyIn l D g H.size ad12 none none fu T11 x1 (-1) r14 Q15 hc15) (cwV 2 hts (lw_V q1922 q1924 qs68 q79 q1925) rfl rfl rfl (by decide +kernel) ⟨Nat.le_of_ble_eq_true rfl, Nat.le_of_ble_eq_true rfl⟩) (b_preV (pp := 1) (q := 0) hW hp15 rfl mW_0 rfl) rfl rfl hl.1 rfl (lv_room (Nat.le_of_ble_eq_true rfl)) dX3_called_43 ⟨o_q2 hq13.1, o_q2 hq13.2⟩) hW hp15 (fun _ _ H locs hW => ?_)
        have hW : bW D g A s H locs [mW g ad12 none none Q15, mW g adM kM (some (ad12 0)) M] := hW
        refine lv_istore (lv' := [(4, .int r14), (0, .ref (adM 0)), (1, .int x1), (2, .int x2), (3, .int x3)]) hx hb dX3_called_46 hl (by decide) rfl (fun ls hl => ?_)
        refine lv_aload_n hx hb dX3_called_48 rfl (lv_at hl 1 rfl) ?_
        obtain ⟨T16, hc17, hf⟩ := o_b1s hf
        have hp17 : List.Perm [mW g ad12 none none Q15, mW g adM kM (some (ad12 0)) M] ([mW g adM kM (some (ad12 0)) M, mW g ad12 none none Q15] ++ []) := b_perm [1, 0] [] 2 rfl rfl rfl rfl
        refine b_call (va_runV (As := []) (rest := []) ⟨hx, hb, hml, hown, hts⟩ (m_X3_fresh l D g H.size adM kM (some (ad12, Q15)) fu M T16 hc17) (cwV 0 hts (lw_V q1701 q1703 qs45 q79 q1704) rfl rfl rfl (by decide +kernel) ⟨Nat.le_of_ble_eq_true rfl, Nat.le_of_ble_eq_true rfl⟩) (b_preV (pp := 1) (q := 0) hW hp17 rfl mW_0 rfl) rfl rfl hl.1 rfl (lv_room (Nat.le_of_ble_eq_true rfl)) dX3_called_49 ⟨hq13.1, hq13.2⟩) hW hp17 (fun ad17 _ H locs hW => ?_)
        refine W.cs (cells' := ((0 + o_k 45 tQ) + o_k 45 (some (ad12, Q15)))) (slots' := ((0 + o_k 842 tQ) + o_k 842 (some (ad12, Q15)))) rfl rfl ?_
        have hq18 : ((0 + o_k 45 tQ) + o_k 45 (some (ad12, Q15))) + o_k 45 (some (ad17, T16)) ≤ o_k 45 tQ ∧ ((0 + o_k 842 tQ) + o_k 842 (some (ad12, Q15))) + o_k 842 (some (ad17, T16)) ≤ o_k 842 tQ := hq13
        have hW : bW D g A s H locs [mW g adM kM (some (ad17 0)) M, mW g ad17 none none T16] := hW
        refine lv_astore (lv' := [(5, .ref (ad17 0)), (4, .int r14), (0, .ref (adM 0)), (1, .int x1), (2, .int x2), (3, .int x3)]) hx hb dX3_called_52 hl (by decide) rfl (fun ls hl => ?_)
        refine lv_aload hx hb dX3_called_54 (lv_at hl 0 rfl) ?_
        refine b_get hx hb hts in_X3 hown hW 1 0 3 10 rfl mW_0 rfl (by decide) ⟨rfl, rfl, rfl⟩ (hts _ q1469) mW_g10 dX3_called_56 ?_
        refine lv_iload_n hx hb dX3_called_59 rfl (lv_at hl 4 rfl) ?_
        obtain ⟨h19, hf⟩ := o_cs hf
        refine b_agrI hx hb hW 1 17 rfl mW_17 h19 dX3_called_60 ?_
        refine lv_iconst (v := 4) hx hb dX3_called_61 (by decide) ?_
        refine lv_iload_n hx hb dX3_called_62 rfl (lv_at hl 5 rfl) ?_
        obtain ⟨Q20, eQ20, hf⟩ := o_ls hf
        refine b_iast hx hb hW 1 (18 + ix x2) rfl (mW_r18 (inB_lt h19)) (mW_rs18 (inB_lt h19) eQ20) rfl (by decide) dX3_called_63 (fun H locs hW => ?_)
        have hW : bW D g A s H locs [mW g adM kM (some (ad17 0)) M, mW g ad17 none none Q20] := hW
        refine lv_aload hx hb dX3_called_64 (lv_at hl 0 rfl) ?_
        refine lv_iload_n hx hb dX3_called_66 rfl (lv_at hl 3 rfl) ?_
        refine lv_iconst (v := (-1)) hx hb dX3_called_67 (by decide) ?_
        obtain ⟨r21, Q22, hc22, hf⟩ := o_b2s hf
        have hp22 : List.Perm [mW g adM kM (some (ad17 0)) M, mW g ad17 none none Q20] ([mW g ad17 none none Q20] ++ [mW g adM kM (some (ad17 0)) M]) := b_perm [1] [0] 2 rfl rfl rfl rfl
        refine b_call0 ⟨rfl, rfl⟩ (va_runV (As := [.int x1, .int (-1)]) (rest := []) ⟨hx, hb, hml, hown, hts⟩ (m_X3_joyIn l D g H.size ad17 none none fu Q20 x1 (-1) r21 Q22 hc22) (cwV 2 hts (lw_V q1922 q1924 qs68 q79 q1925) rfl rfl rfl (by decide +kernel) ⟨Nat.le_of_ble_eq_true rfl, Nat.le_of_ble_eq_true rfl⟩) (b_preV (pp := 1) (q := 0) hW hp22 rfl mW_0 rfl) rfl rfl hl.1 rfl (lv_room (Nat.le_of_ble_eq_true rfl)) dX3_called_68 ⟨o_q2 hq18.1, o_q2 hq18.2⟩) hW hp22 (fun _ _ H locs hW => ?_)
        have hW : bW D g A s H locs [mW g ad17 none none Q22, mW g adM kM (some (ad17 0)) M] := hW
        refine lv_iload hx hb dX3_called_71 (lv_at hl 1 rfl) ?_
        refine lv_isub hx hb dX3_called_73 ?_
        refine W.widen (k := o_k 45 tQ) (n := o_k 842 tQ) (o_q3 hq18.1) (o_q3 hq18.2) ?_
        cases hf
        exact b_iret hx hb hr hlk hE (b_perms hW (b_ord [1, 0] 2 rfl rfl rfl)) (some (ad17, Q22)) rfl rfl rfl dX3_called_74
      · have hf := o_t hf c10
        refine lv_ldc (v := (-1000000)) hx hb hown (hts _ q1801) dX3_called_27 ?_
        refine lv_aload_n hx hb dX3_called_29 rfl (lv_at hl 0 rfl) ?_
        refine lv_bipush (v := (-2)) hx hb dX3_called_30 (by decide) ?_
        obtain ⟨r23, M24, hc24, hf⟩ := o_b2s hf
        have hp24 : List.Perm [mW g adM kM (o_a tQ) M, oM g tQ] ([mW g adM kM (o_a tQ) M] ++ [oM g tQ]) := b_perm [0] [1] 2 rfl rfl rfl rfl
        refine b_call0 ⟨rfl, rfl⟩ (va_runV (As := [.int (-2)]) (rest := [.int (-1000000)]) ⟨hx, hb, hml, hown, hts⟩ (m_X3_refuse l D g H.size adM kM (o_a tQ) M (-2) r23 M24 hc24) (cwV 1 hts (lw_V q1572 q1574 qs33 q79 q1575) rfl rfl rfl (by decide +kernel) ⟨Nat.le_of_ble_eq_true rfl, Nat.le_of_ble_eq_true rfl⟩) (b_preV (pp := 0) (q := 0) hW hp24 rfl mW_0 rfl) rfl rfl hl.1 rfl (lv_room (Nat.le_of_ble_eq_true rfl)) dX3_called_32 ⟨o_q2 hq0.1, o_q2 hq0.2⟩) hW hp24 (fun _ _ H locs hW => ?_)
        have hW : bW D g A s H locs [mW g adM kM (o_a tQ) M24, oM g tQ] := hW
        refine lv_iadd hx hb dX3_called_35 ?_
        refine W.widen (k := o_k 45 tQ) (n := o_k 842 tQ) (o_q3 hq0.1) (o_q3 hq0.2) ?_
        cases hf
        exact b_iret hx hb hr hlk hE hW tQ rfl rfl rfl dX3_called_36
def f_X3_spoilt_L35 (M : BC) (x1 : Int32) (x2 : Int32) (fu : Nat) (rec10 : (Int32 × BC) → Option (Int32 × BC × Option BC)) : Int32 × BC → Option (Int32 × BC × Option BC)
  | (v11, Q12) =>
    (if (30 : Int32) < v11 then
     some ((-1), M, (some Q12))
     else
     o_b1 (f_X3_yearGoesBy fu Q12) fun (Q14 : BC) =>
     o_ck (inB x1 6) ((if x2 ≤ (Q14.1 (18 + ix x1) (ix 0)) then
     o_lt (v11 + 1) fun (v17 : Int32) =>
     rec10 (v17, Q14)
     else
     some (v11, M, (some Q14)))))
def f_X3_spoilt (fu : Nat) (M : BC) (To : Option BC) (x1 : Int32) (x2 : Int32) : Option (Int32 × BC × Option BC) :=
 o_b1 (f_X3_isInn M x1) fun (r1 : Int32) =>
 (if r1 = 0 then
 o_b2 (f_X3_refuse M (-2)) fun (r3 : Int32) (M4 : BC) =>
 some (r3, M4, To)
 else
 o_b1 (f_X3_in x2.toInt64 0 100) fun (r5 : Int32) =>
 (if r5 = 0 then
 o_b2 (f_X3_refuse M (-2)) fun (r18 : Int32) (M19 : BC) =>
 some (r18, M19, To)
 else
 o_b1 (f_X3_fresh fu M To) fun (T7 : BC) =>
 o_lp (f_X3_spoilt_L35 M x1 x2 fu) fu (1, T7)))
abbrev rm_X3_spoilt (tQ : Option ((Nat → Nat) × BC)) : Room := { frames := 5, cells := o_k 45 tQ, slots := o_k 842 tQ, locals := 119 }
set_option maxHeartbeats 4000000 in
set_option maxRecDepth 100000 in
theorem m_X3_spoilt (l : Launch) (D : va_G) (g : Nat → ClassId) (sz : Nat) (adM : Nat → Nat) (kM : Option Nat) (tQ : Option ((Nat → Nat) × BC)) (fu : Nat) (M : BC) (x1 : Int32) (x2 : Int32) (rO : Int32) (MO : BC) (TO : Option BC) (hf : f_X3_spoilt fu M (tQ.map Prod.snd) x1 x2 = some (rO, MO, TO)) : bMet (S := Option ((Nat → Nat) × BC)) l yX3_spoilt (ws_ yX3_spoilt cX3_spoilt 5 (some .int)) (rm_X3_spoilt tQ) D g sz [.ref (adM 0), .int x1, .int x2] [mW g adM kM (o_a tQ) M, oM g tQ] (fun tQ1 => tQ1.map Prod.snd = TO) (fun _ => some (.int rO)) (fun tQ1 => [mW g adM kM (o_a tQ1) MO, oM g tQ1]) := by
  refine b_met (by decide) (Nat.le_of_ble_eq_true rfl) ?_
  intro p e s m args below meth c A Q ls hx hb hml hr hlk hown hname hts hE hl hW
  revert hW; generalize s.heap = H; intro hW
  have hl : lv_has ls 5 [(0, .ref (adM 0)), (1, .int x1), (2, .int x2)] := hl
  rw [f_X3_spoilt] at hf
  have hq0 : 0 + o_k 45 tQ ≤ o_k 45 tQ ∧ 0 + o_k 842 tQ ≤ o_k 842 tQ := ⟨Nat.le_of_eq (Nat.zero_add _), Nat.le_of_eq (Nat.zero_add _)⟩
  refine lv_aload_n hx hb dX3_spoilt_0 rfl (lv_at hl 0 rfl) ?_
  refine lv_iload_n hx hb dX3_spoilt_1 rfl (lv_at hl 1 rfl) ?_
  obtain ⟨r1, hc1, hf⟩ := o_b1s hf
  have hp1 : List.Perm [mW g adM kM (o_a tQ) M, oM g tQ] ([mW g adM kM (o_a tQ) M] ++ [oM g tQ]) := b_perm [0] [1] 2 rfl rfl rfl rfl
  refine b_call0 ⟨rfl, rfl⟩ (va_runV (As := [.int x1]) (rest := []) ⟨hx, hb, hml, hown, hts⟩ (m_X3_isInn l D g H.size adM kM (o_a tQ) M x1 r1 hc1) (cwV 1 hts (lw_V q1651 q1653 qs41 q79 q1654) rfl rfl rfl (by decide +kernel) ⟨Nat.le_of_ble_eq_true rfl, Nat.le_of_ble_eq_true rfl⟩) (b_preV (pp := 0) (q := 0) hW hp1 rfl mW_0 rfl) rfl rfl hl.1 rfl (lv_room (Nat.le_of_ble_eq_true rfl)) dX3_spoilt_2 ⟨o_q2 hq0.1, o_q2 hq0.2⟩) hW hp1 (fun _ _ H locs hW => ?_)
  have hW : bW D g A s H locs [mW g adM kM (o_a tQ) M, oM g tQ] := hW
  refine lv_if_eq (tgt := 20) hx hb dX3_spoilt_5 (by decide) (fun c2 => ?_) (fun c2 => ?_)
  · have hf := o_t hf c2
    refine lv_aload_n hx hb dX3_spoilt_20 rfl (lv_at hl 0 rfl) ?_
    refine lv_bipush (v := (-2)) hx hb dX3_spoilt_21 (by decide) ?_
    obtain ⟨r3, M4, hc4, hf⟩ := o_b2s hf
    have hp4 : List.Perm [mW g adM kM (o_a tQ) M, oM g tQ] ([mW g adM kM (o_a tQ) M] ++ [oM g tQ]) := b_perm [0] [1] 2 rfl rfl rfl rfl
    refine b_call0 ⟨rfl, rfl⟩ (va_runV (As := [.int (-2)]) (rest := []) ⟨hx, hb, hml, hown, hts⟩ (m_X3_refuse l D g H.size adM kM (o_a tQ) M (-2) r3 M4 hc4) (cwV 1 hts (lw_V q1572 q1574 qs33 q79 q1575) rfl rfl rfl (by decide +kernel) ⟨Nat.le_of_ble_eq_true rfl, Nat.le_of_ble_eq_true rfl⟩) (b_preV (pp := 0) (q := 0) hW hp4 rfl mW_0 rfl) rfl rfl hl.1 rfl (lv_room (Nat.le_of_ble_eq_true rfl)) dX3_spoilt_23 ⟨o_q2 hq0.1, o_q2 hq0.2⟩) hW hp4 (fun _ _ H locs hW => ?_)
    have hW : bW D g A s H locs [mW g adM kM (o_a tQ) M4, oM g tQ] := hW
    refine W.widen (k := o_k 45 tQ) (n := o_k 842 tQ) (o_q3 hq0.1) (o_q3 hq0.2) ?_
    cases hf
    exact b_iret hx hb hr hlk hE hW tQ rfl rfl rfl dX3_spoilt_26
  · have hf := o_f hf c2
    refine lv_iload_n hx hb dX3_spoilt_8 rfl (lv_at hl 2 rfl) ?_
    refine lv_i2l hx hb dX3_spoilt_9 rfl ?_
    refine lv_lconst (v := 0) hx hb dX3_spoilt_10 (by decide) ?_
    refine lv_ldc2 (v := 100) hx hb hown (hts _ q1635) dX3_spoilt_11 ?_
    obtain ⟨r5, hc5, hf⟩ := o_b1s hf
    have hp5 : List.Perm [mW g adM kM (o_a tQ) M, oM g tQ] ([] ++ [mW g adM kM (o_a tQ) M, oM g tQ]) := b_perm [] [0, 1] 2 rfl rfl rfl rfl
    refine b_call0 ⟨rfl, rfl⟩ (va_runS (As := [.long x2.toInt64, .long 0, .long 100]) (rest := []) ⟨hx, hb, hml, hown, hts⟩ (m_X3_in l D g H.size x2.toInt64 0 100 r5 hc5) (va_cwS 3 hts (lw_S q1567 q1568 q79 q1569) rfl rfl rfl (by decide +kernel) ⟨Nat.le_of_ble_eq_true rfl, Nat.le_of_ble_eq_true rfl⟩) (b_preS hW hp5) rfl rfl hl.1 rfl (lv_room (Nat.le_of_ble_eq_true rfl)) dX3_spoilt_14 ⟨o_q2 hq0.1, o_q2 hq0.2⟩) hW hp5 (fun _ _ H locs hW => ?_)
    have hW : bW D g A s H locs [mW g adM kM (o_a tQ) M, oM g tQ] := hW
    refine lv_if_ne (tgt := 27) hx hb dX3_spoilt_17 (by decide) (fun c6 => ?_) (fun c6 => ?_)
    · have hf := o_f hf c6
      refine lv_aload_n hx hb dX3_spoilt_27 rfl (lv_at hl 0 rfl) ?_
      obtain ⟨T7, hc8, hf⟩ := o_b1s hf
      have hp8 : List.Perm [mW g adM kM (o_a tQ) M, oM g tQ] ([mW g adM kM (o_a tQ) M, oM g tQ] ++ []) := b_perm [0, 1] [] 2 rfl rfl rfl rfl
      refine b_call (va_runV (As := []) (rest := []) ⟨hx, hb, hml, hown, hts⟩ (m_X3_fresh l D g H.size adM kM tQ fu M T7 hc8) (cwV 0 hts (lw_V q1701 q1703 qs45 q79 q1704) rfl rfl rfl (by decide +kernel) ⟨Nat.le_of_ble_eq_true rfl, Nat.le_of_ble_eq_true rfl⟩) (b_preV (pp := 0) (q := 0) hW hp8 rfl mW_0 rfl) rfl rfl hl.1 rfl (lv_room (Nat.le_of_ble_eq_true rfl)) dX3_spoilt_28 ⟨hq0.1, hq0.2⟩) hW hp8 (fun ad8 _ H locs hW => ?_)
      refine W.cs (cells' := (0 + o_k 45 tQ)) (slots' := (0 + o_k 842 tQ)) rfl rfl ?_
      have hq9 : (0 + o_k 45 tQ) + o_k 45 (some (ad8, T7)) ≤ o_k 45 tQ ∧ (0 + o_k 842 tQ) + o_k 842 (some (ad8, T7)) ≤ o_k 842 tQ := hq0
      have hW : bW D g A s H locs [mW g adM kM (some (ad8 0)) M, mW g ad8 none none T7] := hW
      refine lv_astore_n (lv' := [(3, .ref (ad8 0)), (0, .ref (adM 0)), (1, .int x1), (2, .int x2)]) hx hb dX3_spoilt_31 rfl hl (by decide) rfl (fun ls hl => ?_)
      refine lv_iconst (v := 1) hx hb dX3_spoilt_32 (by decide) ?_
      refine lv_istore (lv' := [(4, .int 1), (3, .ref (ad8 0)), (0, .ref (adM 0)), (1, .int x1), (2, .int x2)]) hx hb dX3_spoilt_33 hl (by decide) rfl (fun ls hl => ?_)
      obtain ⟨stp10, est10, hf⟩ := o_ln hf
      have L10 : ∀ (n : Nat) (v11 : Int32) (Q12 : BC) (H : Heap) (locs : List Loc) (ls : Array Slot), bW D g A s H locs [mW g adM kM (some (ad8 0)) M, mW g ad8 none none Q12] → lv_has ls 5 [(4, .int v11), (3, .ref (ad8 0)), (1, .int x1), (2, .int x2)] → o_lp stp10 n (v11, Q12) = some (rO, MO, TO) → W p l e (rm_X3_spoilt tQ) s m args below meth c H locs (0 + o_k 45 tQ) (0 + o_k 842 tQ) Q (F0 m 35 ls []) := by
        intro n10
        induction n10 with
        | zero => intro v11 Q12 H locs ls hW hl hf; exact (o_lz hf).elim
        | succ n10 ih10 =>
          intro v11 Q12 H locs ls hW hl hf
          have hf := o_lu est10 hf
          rw [f_X3_spoilt_L35] at hf
          refine lv_iload hx hb dX3_spoilt_35 (lv_at hl 0 rfl) ?_
          refine lv_bipush (v := 30) hx hb dX3_spoilt_37 (by decide) ?_
          refine lv_icmp_gt (tgt := 67) hx hb dX3_spoilt_39 (by decide) (fun c13 => ?_) (fun c13 => ?_)
          · have hf := o_t hf c13
            refine lv_iconst (v := (-1)) hx hb dX3_spoilt_67 (by decide) ?_
            refine W.widen (k := o_k 45 tQ) (n := o_k 842 tQ) (o_q3 hq9.1) (o_q3 hq9.2) ?_
            cases hf
            exact b_iret hx hb hr hlk hE hW (some (ad8, Q12)) rfl rfl rfl dX3_spoilt_68
          · have hf := o_f hf c13
            refine lv_aload_n hx hb dX3_spoilt_42 rfl (lv_at hl 1 rfl) ?_
            obtain ⟨Q14, hc14, hf⟩ := o_b1s hf
            have hp14 : List.Perm [mW g adM kM (some (ad8 0)) M, mW g ad8 none none Q12] ([mW g ad8 none none Q12] ++ [mW g adM kM (some (ad8 0)) M]) := b_perm [1] [0] 2 rfl rfl rfl rfl
            refine b_call0 ⟨rfl, rfl⟩ (va_runV (As := []) (rest := []) ⟨hx, hb, hml, hown, hts⟩ (m_X3_yearGoesBy l D g H.size ad8 none none fu Q12 Q14 hc14) (cwV 0 hts (lw_V q1926 q1928 qs69 q79 q1929) rfl rfl rfl (by decide +kernel) ⟨Nat.le_of_ble_eq_true rfl, Nat.le_of_ble_eq_true rfl⟩) (b_preV (pp := 1) (q := 0) hW hp14 rfl mW_0 rfl) rfl rfl hl.1 rfl (lv_room (Nat.le_of_ble_eq_true rfl)) dX3_spoilt_43 ⟨o_q2 hq9.1, o_q2 hq9.2⟩) hW hp14 (fun _ _ H locs hW => ?_)
            have hW : bW D g A s H locs [mW g ad8 none none Q14, mW g adM kM (some (ad8 0)) M] := hW
            refine lv_aload_n hx hb dX3_spoilt_46 rfl (lv_at hl 1 rfl) ?_
            refine b_get hx hb hts in_X3 hown hW 0 0 3 10 rfl mW_0 rfl (by decide) ⟨rfl, rfl, rfl⟩ (hts _ q1469) mW_g10 dX3_spoilt_47 ?_
            refine lv_iload_n hx hb dX3_spoilt_50 rfl (lv_at hl 2 rfl) ?_
            obtain ⟨h15, hf⟩ := o_cs hf
            refine b_agrI hx hb hW 0 17 rfl mW_17 h15 dX3_spoilt_51 ?_
            refine lv_iconst (v := 0) hx hb dX3_spoilt_52 (by decide) ?_
            refine b_iald hx hb hW 0 (18 + ix x1) rfl (mW_r18 (inB_lt h15)) (by decide) dX3_spoilt_53 ?_
            refine lv_iload_n hx hb dX3_spoilt_54 rfl (lv_at hl 3 rfl) ?_
            refine lv_icmp_ge (tgt := 61) hx hb dX3_spoilt_55 (by decide) (fun c16 => ?_) (fun c16 => ?_)
            · have hf := o_t hf c16
              obtain ⟨v17, ev17, hf⟩ := o_ls hf
              refine lv_iinc (v := v17) (lv' := [(4, .int v17), (3, .ref (ad8 0)), (1, .int x1), (2, .int x2)]) hx hb dX3_spoilt_61 hl (k := 0) rfl ev17 (by decide) rfl (fun ls hl => ?_)
              refine lv_goto (tgt := 35) hx hb dX3_spoilt_64 (by decide) ?_
              exact ih10 _ _ _ _ _ (b_perms hW (b_ord [1, 0] 2 rfl rfl rfl)) (lv_sub hl [0, 1, 2, 3] rfl) hf
            · have hf := o_f hf c16
              refine lv_iload hx hb dX3_spoilt_58 (lv_at hl 0 rfl) ?_
              refine W.widen (k := o_k 45 tQ) (n := o_k 842 tQ) (o_q3 hq9.1) (o_q3 hq9.2) ?_
              cases hf
              exact b_iret hx hb hr hlk hE (b_perms hW (b_ord [1, 0] 2 rfl rfl rfl)) (some (ad8, Q14)) rfl rfl rfl dX3_spoilt_60
      exact L10 _ _ _ _ _ _ hW (lv_sub hl [0, 1, 3, 4] rfl) hf
    · have hf := o_t hf c6
      refine lv_aload_n hx hb dX3_spoilt_20 rfl (lv_at hl 0 rfl) ?_
      refine lv_bipush (v := (-2)) hx hb dX3_spoilt_21 (by decide) ?_
      obtain ⟨r18, M19, hc19, hf⟩ := o_b2s hf
      have hp19 : List.Perm [mW g adM kM (o_a tQ) M, oM g tQ] ([mW g adM kM (o_a tQ) M] ++ [oM g tQ]) := b_perm [0] [1] 2 rfl rfl rfl rfl
      refine b_call0 ⟨rfl, rfl⟩ (va_runV (As := [.int (-2)]) (rest := []) ⟨hx, hb, hml, hown, hts⟩ (m_X3_refuse l D g H.size adM kM (o_a tQ) M (-2) r18 M19 hc19) (cwV 1 hts (lw_V q1572 q1574 qs33 q79 q1575) rfl rfl rfl (by decide +kernel) ⟨Nat.le_of_ble_eq_true rfl, Nat.le_of_ble_eq_true rfl⟩) (b_preV (pp := 0) (q := 0) hW hp19 rfl mW_0 rfl) rfl rfl hl.1 rfl (lv_room (Nat.le_of_ble_eq_true rfl)) dX3_spoilt_23 ⟨o_q2 hq0.1, o_q2 hq0.2⟩) hW hp19 (fun _ _ H locs hW => ?_)
      have hW : bW D g A s H locs [mW g adM kM (o_a tQ) M19, oM g tQ] := hW
      refine W.widen (k := o_k 45 tQ) (n := o_k 842 tQ) (o_q3 hq0.1) (o_q3 hq0.2) ?_
      cases hf
      exact b_iret hx hb hr hlk hE hW tQ rfl rfl rfl dX3_spoilt_26
def f_X3_bears_L76 (M : BC) (x2 : Int32) (x3 : Int32) (x4 : Int32) (fu : Nat) (v16 : Int32) (rec15 : (Int32 × Option BC) → Option (Int32 × BC × Option BC)) (rec24 : (Int32 × Int32 × BC) → Option (Int32 × BC × Option BC)) : Int32 × Int32 × BC → Option (Int32 × BC × Option BC)
  | (v25, v26, Q27) =>
    (if x3 ≤ v26 then
     (if v25 = 0 then
     o_lt (v16 + (-1)) fun (v30 : Int32) =>
     rec15 (v30, (some Q27))
     else
     some (v16, M, (some Q27)))
     else
     o_b1 (f_X3_yearGoesBy fu Q27) fun (Q31 : BC) =>
     o_ck (inB x2 6) ((if (Q31.1 (18 + ix x2) (ix 0)) < x4 then
     o_lt (v25 &&& 0) fun (v34 : Int32) =>
     o_lt (v26 + 1) fun (v35 : Int32) =>
     rec24 (v34, v35, Q31)
     else
     o_lt (v25 &&& 1) fun (v36 : Int32) =>
     o_lt (v26 + 1) fun (v37 : Int32) =>
     rec24 (v36, v37, Q31))))
def f_X3_bears_L47 (M : BC) (x1 : Int32) (x2 : Int32) (x3 : Int32) (x4 : Int32) (fu : Nat) (rec15 : (Int32 × Option BC) → Option (Int32 × BC × Option BC)) : Int32 × Option BC → Option (Int32 × BC × Option BC)
  | (v16, q17) =>
    (if v16 < 1 then
     some ((-1), M, q17)
     else
     o_b1 (f_X3_fresh fu M q17) fun (T19 : BC) =>
     o_ck (inB x1 6) (o_lt (bI T19 (25 + ix x1) (upd (T19.1 (25 + ix x1)) (ix 1) v16)) fun (Q23 : BC) =>
     o_lp (f_X3_bears_L76 M x2 x3 x4 fu v16 rec15) fu (1, 0, Q23)))
def f_X3_bears (fu : Nat) (M : BC) (To : Option BC) (x1 : Int32) (x2 : Int32) (x3 : Int32) (x4 : Int32) : Option (Int32 × BC × Option BC) :=
 o_b1 (f_X3_isGoer M x1) fun (r1 : Int32) =>
 (if r1 = 0 then
 o_b2 (f_X3_refuse M (-2)) fun (r3 : Int32) (M4 : BC) =>
 some (r3, M4, To)
 else
 o_b1 (f_X3_isInn M x2) fun (r5 : Int32) =>
 (if r5 = 0 then
 o_b2 (f_X3_refuse M (-2)) fun (r7 : Int32) (M8 : BC) =>
 some (r7, M8, To)
 else
 o_b1 (f_X3_isYears x3) fun (r9 : Int32) =>
 (if r9 = 0 then
 o_b2 (f_X3_refuse M (-2)) fun (r11 : Int32) (M12 : BC) =>
 some (r11, M12, To)
 else
 o_b1 (f_X3_in x4.toInt64 0 100) fun (r13 : Int32) =>
 (if r13 = 0 then
 o_b2 (f_X3_refuse M (-2)) fun (r38 : Int32) (M39 : BC) =>
 some (r38, M39, To)
 else
 o_lp (f_X3_bears_L47 M x1 x2 x3 x4 fu) fu (30, To)))))
abbrev rm_X3_bears (tQ : Option ((Nat → Nat) × BC)) : Room := { frames := 5, cells := o_k 45 tQ, slots := o_k 842 tQ, locals := 119 }
set_option maxHeartbeats 4000000 in
set_option maxRecDepth 100000 in
theorem m_X3_bears (l : Launch) (D : va_G) (g : Nat → ClassId) (sz : Nat) (adM : Nat → Nat) (kM : Option Nat) (tQ : Option ((Nat → Nat) × BC)) (fu : Nat) (M : BC) (x1 : Int32) (x2 : Int32) (x3 : Int32) (x4 : Int32) (rO : Int32) (MO : BC) (TO : Option BC) (hf : f_X3_bears fu M (tQ.map Prod.snd) x1 x2 x3 x4 = some (rO, MO, TO)) : bMet (S := Option ((Nat → Nat) × BC)) l yX3_bears (ws_ yX3_bears cX3_bears 9 (some .int)) (rm_X3_bears tQ) D g sz [.ref (adM 0), .int x1, .int x2, .int x3, .int x4] [mW g adM kM (o_a tQ) M, oM g tQ] (fun tQ1 => tQ1.map Prod.snd = TO) (fun _ => some (.int rO)) (fun tQ1 => [mW g adM kM (o_a tQ1) MO, oM g tQ1]) := by
  refine b_met (by decide) (Nat.le_of_ble_eq_true rfl) ?_
  intro p e s m args below meth c A Q ls hx hb hml hr hlk hown hname hts hE hl hW
  revert hW; generalize s.heap = H; intro hW
  have hl : lv_has ls 9 [(0, .ref (adM 0)), (1, .int x1), (2, .int x2), (3, .int x3), (4, .int x4)] := hl
  rw [f_X3_bears] at hf
  have hq0 : 0 + o_k 45 tQ ≤ o_k 45 tQ ∧ 0 + o_k 842 tQ ≤ o_k 842 tQ := ⟨Nat.le_of_eq (Nat.zero_add _), Nat.le_of_eq (Nat.zero_add _)⟩
  refine lv_aload_n hx hb dX3_bears_0 rfl (lv_at hl 0 rfl) ?_
  refine lv_iload_n hx hb dX3_bears_1 rfl (lv_at hl 1 rfl) ?_
  obtain ⟨r1, hc1, hf⟩ := o_b1s hf
  have hp1 : List.Perm [mW g adM kM (o_a tQ) M, oM g tQ] ([mW g adM kM (o_a tQ) M] ++ [oM g tQ]) := b_perm [0] [1] 2 rfl rfl rfl rfl
  refine b_call0 ⟨rfl, rfl⟩ (va_runV (As := [.int x1]) (rest := []) ⟨hx, hb, hml, hown, hts⟩ (m_X3_isGoer l D g H.size adM kM (o_a tQ) M x1 r1 hc1) (cwV 1 hts (lw_V q1603 q1605 qs35 q79 q1606) rfl rfl rfl (by decide +kernel) ⟨Nat.le_of_ble_eq_true rfl, Nat.le_of_ble_eq_true rfl⟩) (b_preV (pp := 0) (q := 0) hW hp1 rfl mW_0 rfl) rfl rfl hl.1 rfl (lv_room (Nat.le_of_ble_eq_true rfl)) dX3_bears_2 ⟨o_q2 hq0.1, o_q2 hq0.2⟩) hW hp1 (fun _ _ H locs hW => ?_)
  have hW : bW D g A s H locs [mW g adM kM (o_a tQ) M, oM g tQ] := hW
  refine lv_if_eq (tgt := 36) hx hb dX3_bears_5 (by decide) (fun c2 => ?_) (fun c2 => ?_)
  · have hf := o_t hf c2
    refine lv_aload_n hx hb dX3_bears_36 rfl (lv_at hl 0 rfl) ?_
    refine lv_bipush (v := (-2)) hx hb dX3_bears_37 (by decide) ?_
    obtain ⟨r3, M4, hc4, hf⟩ := o_b2s hf
    have hp4 : List.Perm [mW g adM kM (o_a tQ) M, oM g tQ] ([mW g adM kM (o_a tQ) M] ++ [oM g tQ]) := b_perm [0] [1] 2 rfl rfl rfl rfl
    refine b_call0 ⟨rfl, rfl⟩ (va_runV (As := [.int (-2)]) (rest := []) ⟨hx, hb, hml, hown, hts⟩ (m_X3_refuse l D g H.size adM kM (o_a tQ) M (-2) r3 M4 hc4) (cwV 1 hts (lw_V q1572 q1574 qs33 q79 q1575) rfl rfl rfl (by decide +kernel) ⟨Nat.le_of_ble_eq_true rfl, Nat.le_of_ble_eq_true rfl⟩) (b_preV (pp := 0) (q := 0) hW hp4 rfl mW_0 rfl) rfl rfl hl.1 rfl (lv_room (Nat.le_of_ble_eq_true rfl)) dX3_bears_39 ⟨o_q2 hq0.1, o_q2 hq0.2⟩) hW hp4 (fun _ _ H locs hW => ?_)
    have hW : bW D g A s H locs [mW g adM kM (o_a tQ) M4, oM g tQ] := hW
    refine W.widen (k := o_k 45 tQ) (n := o_k 842 tQ) (o_q3 hq0.1) (o_q3 hq0.2) ?_
    cases hf
    exact b_iret hx hb hr hlk hE hW tQ rfl rfl rfl dX3_bears_42
  · have hf := o_f hf c2
    refine lv_aload_n hx hb dX3_bears_8 rfl (lv_at hl 0 rfl) ?_
    refine lv_iload_n hx hb dX3_bears_9 rfl (lv_at hl 2 rfl) ?_
    obtain ⟨r5, hc5, hf⟩ := o_b1s hf
    have hp5 : List.Perm [mW g adM kM (o_a tQ) M, oM g tQ] ([mW g adM kM (o_a tQ) M] ++ [oM g tQ]) := b_perm [0] [1] 2 rfl rfl rfl rfl
    refine b_call0 ⟨rfl, rfl⟩ (va_runV (As := [.int x2]) (rest := []) ⟨hx, hb, hml, hown, hts⟩ (m_X3_isInn l D g H.size adM kM (o_a tQ) M x2 r5 hc5) (cwV 1 hts (lw_V q1651 q1653 qs41 q79 q1654) rfl rfl rfl (by decide +kernel) ⟨Nat.le_of_ble_eq_true rfl, Nat.le_of_ble_eq_true rfl⟩) (b_preV (pp := 0) (q := 0) hW hp5 rfl mW_0 rfl) rfl rfl hl.1 rfl (lv_room (Nat.le_of_ble_eq_true rfl)) dX3_bears_10 ⟨o_q2 hq0.1, o_q2 hq0.2⟩) hW hp5 (fun _ _ H locs hW => ?_)
    have hW : bW D g A s H locs [mW g adM kM (o_a tQ) M, oM g tQ] := hW
    refine lv_if_eq (tgt := 36) hx hb dX3_bears_13 (by decide) (fun c6 => ?_) (fun c6 => ?_)
    · have hf := o_t hf c6
      refine lv_aload_n hx hb dX3_bears_36 rfl (lv_at hl 0 rfl) ?_
      refine lv_bipush (v := (-2)) hx hb dX3_bears_37 (by decide) ?_
      obtain ⟨r7, M8, hc8, hf⟩ := o_b2s hf
      have hp8 : List.Perm [mW g adM kM (o_a tQ) M, oM g tQ] ([mW g adM kM (o_a tQ) M] ++ [oM g tQ]) := b_perm [0] [1] 2 rfl rfl rfl rfl
      refine b_call0 ⟨rfl, rfl⟩ (va_runV (As := [.int (-2)]) (rest := []) ⟨hx, hb, hml, hown, hts⟩ (m_X3_refuse l D g H.size adM kM (o_a tQ) M (-2) r7 M8 hc8) (cwV 1 hts (lw_V q1572 q1574 qs33 q79 q1575) rfl rfl rfl (by decide +kernel) ⟨Nat.le_of_ble_eq_true rfl, Nat.le_of_ble_eq_true rfl⟩) (b_preV (pp := 0) (q := 0) hW hp8 rfl mW_0 rfl) rfl rfl hl.1 rfl (lv_room (Nat.le_of_ble_eq_true rfl)) dX3_bears_39 ⟨o_q2 hq0.1, o_q2 hq0.2⟩) hW hp8 (fun _ _ H locs hW => ?_)
      have hW : bW D g A s H locs [mW g adM kM (o_a tQ) M8, oM g tQ] := hW
      refine W.widen (k := o_k 45 tQ) (n := o_k 842 tQ) (o_q3 hq0.1) (o_q3 hq0.2) ?_
      cases hf
      exact b_iret hx hb hr hlk hE hW tQ rfl rfl rfl dX3_bears_42
    · have hf := o_f hf c6
      refine lv_iload_n hx hb dX3_bears_16 rfl (lv_at hl 3 rfl) ?_
      obtain ⟨r9, hc9, hf⟩ := o_b1s hf
      have hp9 : List.Perm [mW g adM kM (o_a tQ) M, oM g tQ] ([] ++ [mW g adM kM (o_a tQ) M, oM g tQ]) := b_perm [] [0, 1] 2 rfl rfl rfl rfl
      refine b_call0 ⟨rfl, rfl⟩ (va_runS (As := [.int x3]) (rest := []) ⟨hx, hb, hml, hown, hts⟩ (m_X3_isYears l D g H.size x3 r9 hc9) (va_cwS 1 hts (lw_S q1918 q1919 q79 q1920) rfl rfl rfl (by decide +kernel) ⟨Nat.le_of_ble_eq_true rfl, Nat.le_of_ble_eq_true rfl⟩) (b_preS hW hp9) rfl rfl hl.1 rfl (lv_room (Nat.le_of_ble_eq_true rfl)) dX3_bears_17 ⟨o_q2 hq0.1, o_q2 hq0.2⟩) hW hp9 (fun _ _ H locs hW => ?_)
      have hW : bW D g A s H locs [mW g adM kM (o_a tQ) M, oM g tQ] := hW
      refine lv_if_eq (tgt := 36) hx hb dX3_bears_20 (by decide) (fun c10 => ?_) (fun c10 => ?_)
      · have hf := o_t hf c10
        refine lv_aload_n hx hb dX3_bears_36 rfl (lv_at hl 0 rfl) ?_
        refine lv_bipush (v := (-2)) hx hb dX3_bears_37 (by decide) ?_
        obtain ⟨r11, M12, hc12, hf⟩ := o_b2s hf
        have hp12 : List.Perm [mW g adM kM (o_a tQ) M, oM g tQ] ([mW g adM kM (o_a tQ) M] ++ [oM g tQ]) := b_perm [0] [1] 2 rfl rfl rfl rfl
        refine b_call0 ⟨rfl, rfl⟩ (va_runV (As := [.int (-2)]) (rest := []) ⟨hx, hb, hml, hown, hts⟩ (m_X3_refuse l D g H.size adM kM (o_a tQ) M (-2) r11 M12 hc12) (cwV 1 hts (lw_V q1572 q1574 qs33 q79 q1575) rfl rfl rfl (by decide +kernel) ⟨Nat.le_of_ble_eq_true rfl, Nat.le_of_ble_eq_true rfl⟩) (b_preV (pp := 0) (q := 0) hW hp12 rfl mW_0 rfl) rfl rfl hl.1 rfl (lv_room (Nat.le_of_ble_eq_true rfl)) dX3_bears_39 ⟨o_q2 hq0.1, o_q2 hq0.2⟩) hW hp12 (fun _ _ H locs hW => ?_)
        have hW : bW D g A s H locs [mW g adM kM (o_a tQ) M12, oM g tQ] := hW
        refine W.widen (k := o_k 45 tQ) (n := o_k 842 tQ) (o_q3 hq0.1) (o_q3 hq0.2) ?_
        cases hf
        exact b_iret hx hb hr hlk hE hW tQ rfl rfl rfl dX3_bears_42
      · have hf := o_f hf c10
        refine lv_iload hx hb dX3_bears_23 (lv_at hl 4 rfl) ?_
        refine lv_i2l hx hb dX3_bears_25 rfl ?_
        refine lv_lconst (v := 0) hx hb dX3_bears_26 (by decide) ?_
        refine lv_ldc2 (v := 100) hx hb hown (hts _ q1635) dX3_bears_27 ?_
        obtain ⟨r13, hc13, hf⟩ := o_b1s hf
        have hp13 : List.Perm [mW g adM kM (o_a tQ) M, oM g tQ] ([] ++ [mW g adM kM (o_a tQ) M, oM g tQ]) := b_perm [] [0, 1] 2 rfl rfl rfl rfl
        refine b_call0 ⟨rfl, rfl⟩ (va_runS (As := [.long x4.toInt64, .long 0, .long 100]) (rest := []) ⟨hx, hb, hml, hown, hts⟩ (m_X3_in l D g H.size x4.toInt64 0 100 r13 hc13) (va_cwS 3 hts (lw_S q1567 q1568 q79 q1569) rfl rfl rfl (by decide +kernel) ⟨Nat.le_of_ble_eq_true rfl, Nat.le_of_ble_eq_true rfl⟩) (b_preS hW hp13) rfl rfl hl.1 rfl (lv_room (Nat.le_of_ble_eq_true rfl)) dX3_bears_30 ⟨o_q2 hq0.1, o_q2 hq0.2⟩) hW hp13 (fun _ _ H locs hW => ?_)
        have hW : bW D g A s H locs [mW g adM kM (o_a tQ) M, oM g tQ] := hW
        refine lv_if_ne (tgt := 43) hx hb dX3_bears_33 (by decide) (fun c14 => ?_) (fun c14 => ?_)
        · have hf := o_f hf c14
          refine lv_bipush (v := 30) hx hb dX3_bears_43 (by decide) ?_
          refine lv_istore (lv' := [(5, .int 30), (0, .ref (adM 0)), (1, .int x1), (2, .int x2), (3, .int x3), (4, .int x4)]) hx hb dX3_bears_45 hl (by decide) rfl (fun ls hl => ?_)
          obtain ⟨stp15, est15, hf⟩ := o_ln hf
          have L15 : ∀ (n : Nat) (v16 : Int32) (tq17 : Option ((Nat → Nat) × BC)) (cq17 sq17 : Nat) (hq17 : cq17 + o_k 45 tq17 ≤ o_k 45 tQ ∧ sq17 + o_k 842 tq17 ≤ o_k 842 tQ) (H : Heap) (locs : List Loc) (ls : Array Slot), bW D g A s H locs [mW g adM kM (o_a tq17) M, oM g tq17] → lv_has ls 9 [(5, .int v16), (0, .ref (adM 0)), (1, .int x1), (2, .int x2), (3, .int x3), (4, .int x4)] → o_lp stp15 n (v16, (tq17.map Prod.snd)) = some (rO, MO, TO) → W p l e (rm_X3_bears tQ) s m args below meth c H locs cq17 sq17 Q (F0 m 47 ls []) := by
            intro n15
            induction n15 with
            | zero => intro v16 tq17 cq17 sq17 hq17 H locs ls hW hl hf; exact (o_lz hf).elim
            | succ n15 ih15 =>
              intro v16 tq17 cq17 sq17 hq17 H locs ls hW hl hf
              have hf := o_lu est15 hf
              rw [f_X3_bears_L47] at hf
              refine lv_iload hx hb dX3_bears_47 (lv_at hl 0 rfl) ?_
              refine lv_iconst (v := 1) hx hb dX3_bears_49 (by decide) ?_
              refine lv_icmp_lt (tgt := 131) hx hb dX3_bears_50 (by decide) (fun c18 => ?_) (fun c18 => ?_)
              · have hf := o_t hf c18
                refine lv_iconst (v := (-1)) hx hb dX3_bears_131 (by decide) ?_
                refine W.widen (k := o_k 45 tQ) (n := o_k 842 tQ) (o_q3 hq17.1) (o_q3 hq17.2) ?_
                cases hf
                exact b_iret hx hb hr hlk hE hW tq17 rfl rfl rfl dX3_bears_132
              · have hf := o_f hf c18
                refine lv_aload_n hx hb dX3_bears_53 rfl (lv_at hl 1 rfl) ?_
                obtain ⟨T19, hc20, hf⟩ := o_b1s hf
                have hp20 : List.Perm [mW g adM kM (o_a tq17) M, oM g tq17] ([mW g adM kM (o_a tq17) M, oM g tq17] ++ []) := b_perm [0, 1] [] 2 rfl rfl rfl rfl
                refine b_call (va_runV (As := []) (rest := []) ⟨hx, hb, hml, hown, hts⟩ (m_X3_fresh l D g H.size adM kM tq17 fu M T19 hc20) (cwV 0 hts (lw_V q1701 q1703 qs45 q79 q1704) rfl rfl rfl (by decide +kernel) ⟨Nat.le_of_ble_eq_true rfl, Nat.le_of_ble_eq_true rfl⟩) (b_preV (pp := 0) (q := 0) hW hp20 rfl mW_0 rfl) rfl rfl hl.1 rfl (lv_room (Nat.le_of_ble_eq_true rfl)) dX3_bears_54 ⟨hq17.1, hq17.2⟩) hW hp20 (fun ad20 _ H locs hW => ?_)
                refine W.cs (cells' := (cq17 + o_k 45 tq17)) (slots' := (sq17 + o_k 842 tq17)) rfl rfl ?_
                have hq21 : (cq17 + o_k 45 tq17) + o_k 45 (some (ad20, T19)) ≤ o_k 45 tQ ∧ (sq17 + o_k 842 tq17) + o_k 842 (some (ad20, T19)) ≤ o_k 842 tQ := hq17
                have hW : bW D g A s H locs [mW g adM kM (some (ad20 0)) M, mW g ad20 none none T19] := hW
                refine lv_astore (lv' := [(6, .ref (ad20 0)), (5, .int v16), (0, .ref (adM 0)), (1, .int x1), (2, .int x2), (3, .int x3), (4, .int x4)]) hx hb dX3_bears_57 hl (by decide) rfl (fun ls hl => ?_)
                refine lv_aload hx hb dX3_bears_59 (lv_at hl 0 rfl) ?_
                refine b_get hx hb hts in_X3 hown hW 1 0 3 12 rfl mW_0 rfl (by decide) ⟨rfl, rfl, rfl⟩ (hts _ q1471) mW_g12 dX3_bears_61 ?_
                refine lv_iload_n hx hb dX3_bears_64 rfl (lv_at hl 3 rfl) ?_
                obtain ⟨h22, hf⟩ := o_cs hf
                refine b_agrI hx hb hW 1 24 rfl mW_24 h22 dX3_bears_65 ?_
                refine lv_iconst (v := 1) hx hb dX3_bears_66 (by decide) ?_
                refine lv_iload hx hb dX3_bears_67 (lv_at hl 1 rfl) ?_
                obtain ⟨Q23, eQ23, hf⟩ := o_ls hf
                refine b_iast hx hb hW 1 (25 + ix x1) rfl (mW_r25 (inB_lt h22)) (mW_rs25 (inB_lt h22) eQ23) rfl (by decide) dX3_bears_69 (fun H locs hW => ?_)
                have hW : bW D g A s H locs [mW g adM kM (some (ad20 0)) M, mW g ad20 none none Q23] := hW
                refine lv_iconst (v := 1) hx hb dX3_bears_70 (by decide) ?_
                refine lv_istore (lv' := [(7, .int 1), (6, .ref (ad20 0)), (5, .int v16), (0, .ref (adM 0)), (1, .int x1), (2, .int x2), (3, .int x3), (4, .int x4)]) hx hb dX3_bears_71 hl (by decide) rfl (fun ls hl => ?_)
                refine lv_iconst (v := 0) hx hb dX3_bears_73 (by decide) ?_
                refine lv_istore (lv' := [(8, .int 0), (7, .int 1), (6, .ref (ad20 0)), (5, .int v16), (0, .ref (adM 0)), (1, .int x1), (2, .int x2), (3, .int x3), (4, .int x4)]) hx hb dX3_bears_74 hl (by decide) rfl (fun ls hl => ?_)
                obtain ⟨stp24, est24, hf⟩ := o_ln hf
                have L24 : ∀ (n : Nat) (v25 : Int32) (v26 : Int32) (Q27 : BC) (H : Heap) (locs : List Loc) (ls : Array Slot), bW D g A s H locs [mW g adM kM (some (ad20 0)) M, mW g ad20 none none Q27] → lv_has ls 9 [(8, .int v26), (7, .int v25), (6, .ref (ad20 0)), (5, .int v16), (0, .ref (adM 0)), (1, .int x1), (2, .int x2), (3, .int x3), (4, .int x4)] → o_lp stp24 n (v25, v26, Q27) = some (rO, MO, TO) → W p l e (rm_X3_bears tQ) s m args below meth c H locs (cq17 + o_k 45 tq17) (sq17 + o_k 842 tq17) Q (F0 m 76 ls []) := by
                  intro n24
                  induction n24 with
                  | zero => intro v25 v26 Q27 H locs ls hW hl hf; exact (o_lz hf).elim
                  | succ n24 ih24 =>
                    intro v25 v26 Q27 H locs ls hW hl hf
                    have hf := o_lu est24 hf
                    rw [f_X3_bears_L76] at hf
                    refine lv_iload hx hb dX3_bears_76 (lv_at hl 0 rfl) ?_
                    refine lv_iload_n hx hb dX3_bears_78 rfl (lv_at hl 7 rfl) ?_
                    refine lv_icmp_ge (tgt := 117) hx hb dX3_bears_79 (by decide) (fun c28 => ?_) (fun c28 => ?_)
                    · have hf := o_t hf c28
                      refine lv_iload hx hb dX3_bears_117 (lv_at hl 1 rfl) ?_
                      refine lv_if_eq (tgt := 125) hx hb dX3_bears_119 (by decide) (fun c29 => ?_) (fun c29 => ?_)
                      · have hf := o_t hf c29
                        obtain ⟨v30, ev30, hf⟩ := o_ls hf
                        refine lv_iinc (v := v30) (lv' := [(5, .int v30), (8, .int v26), (7, .int v25), (6, .ref (ad20 0)), (0, .ref (adM 0)), (1, .int x1), (2, .int x2), (3, .int x3), (4, .int x4)]) hx hb dX3_bears_125 hl (k := 3) rfl ev30 (by decide) rfl (fun ls hl => ?_)
                        refine lv_goto (tgt := 47) hx hb dX3_bears_128 (by decide) ?_
                        exact ih15 _ (some (ad20, Q27)) ((cq17 + o_k 45 tq17)) ((sq17 + o_k 842 tq17)) hq21 _ _ _ hW (lv_sub hl [0, 4, 5, 6, 7, 8] rfl) hf
                      · have hf := o_f hf c29
                        refine lv_iload hx hb dX3_bears_122 (lv_at hl 3 rfl) ?_
                        refine W.widen (k := o_k 45 tQ) (n := o_k 842 tQ) (o_q3 hq21.1) (o_q3 hq21.2) ?_
                        cases hf
                        exact b_iret hx hb hr hlk hE hW (some (ad20, Q27)) rfl rfl rfl dX3_bears_124
                    · have hf := o_f hf c28
                      refine lv_aload hx hb dX3_bears_82 (lv_at hl 2 rfl) ?_
                      obtain ⟨Q31, hc31, hf⟩ := o_b1s hf
                      have hp31 : List.Perm [mW g adM kM (some (ad20 0)) M, mW g ad20 none none Q27] ([mW g ad20 none none Q27] ++ [mW g adM kM (some (ad20 0)) M]) := b_perm [1] [0] 2 rfl rfl rfl rfl
                      refine b_call0 ⟨rfl, rfl⟩ (va_runV (As := []) (rest := []) ⟨hx, hb, hml, hown, hts⟩ (m_X3_yearGoesBy l D g H.size ad20 none none fu Q27 Q31 hc31) (cwV 0 hts (lw_V q1926 q1928 qs69 q79 q1929) rfl rfl rfl (by decide +kernel) ⟨Nat.le_of_ble_eq_true rfl, Nat.le_of_ble_eq_true rfl⟩) (b_preV (pp := 1) (q := 0) hW hp31 rfl mW_0 rfl) rfl rfl hl.1 rfl (lv_room (Nat.le_of_ble_eq_true rfl)) dX3_bears_84 ⟨o_q2 hq21.1, o_q2 hq21.2⟩) hW hp31 (fun _ _ H locs hW => ?_)
                      have hW : bW D g A s H locs [mW g ad20 none none Q31, mW g adM kM (some (ad20 0)) M] := hW
                      refine lv_iload hx hb dX3_bears_87 (lv_at hl 1 rfl) ?_
                      refine lv_aload hx hb dX3_bears_89 (lv_at hl 2 rfl) ?_
                      refine b_get hx hb hts in_X3 hown hW 0 0 3 10 rfl mW_0 rfl (by decide) ⟨rfl, rfl, rfl⟩ (hts _ q1469) mW_g10 dX3_bears_91 ?_
                      refine lv_iload_n hx hb dX3_bears_94 rfl (lv_at hl 6 rfl) ?_
                      obtain ⟨h32, hf⟩ := o_cs hf
                      refine b_agrI hx hb hW 0 17 rfl mW_17 h32 dX3_bears_95 ?_
                      refine lv_iconst (v := 0) hx hb dX3_bears_96 (by decide) ?_
                      refine b_iald hx hb hW 0 (18 + ix x2) rfl (mW_r18 (inB_lt h32)) (by decide) dX3_bears_97 ?_
                      refine lv_iload hx hb dX3_bears_98 (lv_at hl 8 rfl) ?_
                      refine lv_icmp_lt (tgt := 107) hx hb dX3_bears_100 (by decide) (fun c33 => ?_) (fun c33 => ?_)
                      · have hf := o_t hf c33
                        refine lv_iconst (v := 0) hx hb dX3_bears_107 (by decide) ?_
                        refine lv_iand hx hb dX3_bears_108 ?_
                        obtain ⟨v34, ev34, hf⟩ := o_ls hf
                        refine b_topi ev34 ?_
                        refine lv_istore (lv' := [(7, .int v34), (8, .int v26), (6, .ref (ad20 0)), (5, .int v16), (0, .ref (adM 0)), (1, .int x1), (2, .int x2), (3, .int x3), (4, .int x4)]) hx hb dX3_bears_109 hl (by decide) rfl (fun ls hl => ?_)
                        obtain ⟨v35, ev35, hf⟩ := o_ls hf
                        refine lv_iinc (v := v35) (lv' := [(8, .int v35), (7, .int v34), (6, .ref (ad20 0)), (5, .int v16), (0, .ref (adM 0)), (1, .int x1), (2, .int x2), (3, .int x3), (4, .int x4)]) hx hb dX3_bears_111 hl (k := 1) rfl ev35 (by decide) rfl (fun ls hl => ?_)
                        refine lv_goto (tgt := 76) hx hb dX3_bears_114 (by decide) ?_
                        exact ih24 _ _ _ _ _ _ (b_perms hW (b_ord [1, 0] 2 rfl rfl rfl)) (lv_sub hl [0, 1, 2, 3, 4, 5, 6, 7, 8] rfl) hf
                      · have hf := o_f hf c33
                        refine lv_iconst (v := 1) hx hb dX3_bears_103 (by decide) ?_
                        refine lv_goto (tgt := 108) hx hb dX3_bears_104 (by decide) ?_
                        refine lv_iand hx hb dX3_bears_108 ?_
                        obtain ⟨v36, ev36, hf⟩ := o_ls hf
                        refine b_topi ev36 ?_
                        refine lv_istore (lv' := [(7, .int v36), (8, .int v26), (6, .ref (ad20 0)), (5, .int v16), (0, .ref (adM 0)), (1, .int x1), (2, .int x2), (3, .int x3), (4, .int x4)]) hx hb dX3_bears_109 hl (by decide) rfl (fun ls hl => ?_)
                        obtain ⟨v37, ev37, hf⟩ := o_ls hf
                        refine lv_iinc (v := v37) (lv' := [(8, .int v37), (7, .int v36), (6, .ref (ad20 0)), (5, .int v16), (0, .ref (adM 0)), (1, .int x1), (2, .int x2), (3, .int x3), (4, .int x4)]) hx hb dX3_bears_111 hl (k := 1) rfl ev37 (by decide) rfl (fun ls hl => ?_)
                        refine lv_goto (tgt := 76) hx hb dX3_bears_114 (by decide) ?_
                        exact ih24 _ _ _ _ _ _ (b_perms hW (b_ord [1, 0] 2 rfl rfl rfl)) (lv_sub hl [0, 1, 2, 3, 4, 5, 6, 7, 8] rfl) hf
                exact L24 _ _ _ _ _ _ _ hW (lv_sub hl [0, 1, 2, 3, 4, 5, 6, 7, 8] rfl) hf
          exact L15 _ _ tQ (0) (0) hq0 _ _ _ hW (lv_sub hl [0, 1, 2, 3, 4, 5] rfl) hf
        · have hf := o_t hf c14
          refine lv_aload_n hx hb dX3_bears_36 rfl (lv_at hl 0 rfl) ?_
          refine lv_bipush (v := (-2)) hx hb dX3_bears_37 (by decide) ?_
          obtain ⟨r38, M39, hc39, hf⟩ := o_b2s hf
          have hp39 : List.Perm [mW g adM kM (o_a tQ) M, oM g tQ] ([mW g adM kM (o_a tQ) M] ++ [oM g tQ]) := b_perm [0] [1] 2 rfl rfl rfl rfl
          refine b_call0 ⟨rfl, rfl⟩ (va_runV (As := [.int (-2)]) (rest := []) ⟨hx, hb, hml, hown, hts⟩ (m_X3_refuse l D g H.size adM kM (o_a tQ) M (-2) r38 M39 hc39) (cwV 1 hts (lw_V q1572 q1574 qs33 q79 q1575) rfl rfl rfl (by decide +kernel) ⟨Nat.le_of_ble_eq_true rfl, Nat.le_of_ble_eq_true rfl⟩) (b_preV (pp := 0) (q := 0) hW hp39 rfl mW_0 rfl) rfl rfl hl.1 rfl (lv_room (Nat.le_of_ble_eq_true rfl)) dX3_bears_39 ⟨o_q2 hq0.1, o_q2 hq0.2⟩) hW hp39 (fun _ _ H locs hW => ?_)
          have hW : bW D g A s H locs [mW g adM kM (o_a tQ) M39, oM g tQ] := hW
          refine W.widen (k := o_k 45 tQ) (n := o_k 842 tQ) (o_q3 hq0.1) (o_q3 hq0.2) ?_
          cases hf
          exact b_iret hx hb hr hlk hE hW tQ rfl rfl rfl dX3_bears_42
def f_X3_recovers_L47 (M : BC) (x1 : Int32) (fu : Nat) (rec10 : (Int32 × BC) → Option (Int32 × BC × Option BC)) : Int32 × BC → Option (Int32 × BC × Option BC)
  | (v11, Q12) =>
    (if (30 : Int32) < v11 then
     some ((-1), M, (some Q12))
     else
     o_b1 (f_X3_yearGoesBy fu Q12) fun (Q14 : BC) =>
     o_ck (inB x1 6) ((if (Q14.1 (18 + ix x1) (ix 0)) < (Q14.1 (18 + ix x1) (ix 1)) then
     o_lt (v11 + 1) fun (v17 : Int32) =>
     rec10 (v17, Q14)
     else
     some (v11, M, (some Q14)))))
def f_X3_recovers_L22 (M : BC) (x1 : Int32) (fu : Nat) (rec6 : (Int32 × BC) → Option (Int32 × BC × Option BC)) : Int32 × BC → Option (Int32 × BC × Option BC)
  | (v7, Q8) =>
    (if (M.1 0 1) ≤ v7 then
     o_lp (f_X3_recovers_L47 M x1 fu) fu (1, Q8)
     else
     o_ck (inB v7 6) (o_lt (bI Q8 (18 + ix v7) (upd (Q8.1 (18 + ix v7)) (ix 4) (-1))) fun (Q19 : BC) =>
     o_lt (v7 + 1) fun (v20 : Int32) =>
     rec6 (v20, Q19)))
def f_X3_recovers (fu : Nat) (M : BC) (To : Option BC) (x1 : Int32) : Option (Int32 × BC × Option BC) :=
 o_b1 (f_X3_isInn M x1) fun (r1 : Int32) =>
 (if r1 = 0 then
 o_b2 (f_X3_refuse M (-2)) fun (r21 : Int32) (M22 : BC) =>
 some (r21, M22, To)
 else
 o_b1 (f_X3_fresh fu M To) fun (T3 : BC) =>
 o_lp (f_X3_recovers_L22 M x1 fu) fu (0, T3))
abbrev rm_X3_recovers (tQ : Option ((Nat → Nat) × BC)) : Room := { frames := 5, cells := o_k 45 tQ, slots := o_k 842 tQ, locals := 119 }
set_option maxHeartbeats 4000000 in
set_option maxRecDepth 100000 in
theorem m_X3_recovers (l : Launch) (D : va_G) (g : Nat → ClassId) (sz : Nat) (adM : Nat → Nat) (kM : Option Nat) (tQ : Option ((Nat → Nat) × BC)) (fu : Nat) (M : BC) (x1 : Int32) (rO : Int32) (MO : BC) (TO : Option BC) (hf : f_X3_recovers fu M (tQ.map Prod.snd) x1 = some (rO, MO, TO)) : bMet (S := Option ((Nat → Nat) × BC)) l yX3_recovers (ws_ yX3_recovers cX3_recovers 4 (some .int)) (rm_X3_recovers tQ) D g sz [.ref (adM 0), .int x1] [mW g adM kM (o_a tQ) M, oM g tQ] (fun tQ1 => tQ1.map Prod.snd = TO) (fun _ => some (.int rO)) (fun tQ1 => [mW g adM kM (o_a tQ1) MO, oM g tQ1]) := by
  refine b_met (by decide) (Nat.le_of_ble_eq_true rfl) ?_
  intro p e s m args below meth c A Q ls hx hb hml hr hlk hown hname hts hE hl hW
  revert hW; generalize s.heap = H; intro hW
  have hl : lv_has ls 4 [(0, .ref (adM 0)), (1, .int x1)] := hl
  rw [f_X3_recovers] at hf
  have hq0 : 0 + o_k 45 tQ ≤ o_k 45 tQ ∧ 0 + o_k 842 tQ ≤ o_k 842 tQ := ⟨Nat.le_of_eq (Nat.zero_add _), Nat.le_of_eq (Nat.zero_add _)⟩
  refine lv_aload_n hx hb dX3_recovers_0 rfl (lv_at hl 0 rfl) ?_
  refine lv_iload_n hx hb dX3_recovers_1 rfl (lv_at hl 1 rfl) ?_
  obtain ⟨r1, hc1, hf⟩ := o_b1s hf
  have hp1 : List.Perm [mW g adM kM (o_a tQ) M, oM g tQ] ([mW g adM kM (o_a tQ) M] ++ [oM g tQ]) := b_perm [0] [1] 2 rfl rfl rfl rfl
  refine b_call0 ⟨rfl, rfl⟩ (va_runV (As := [.int x1]) (rest := []) ⟨hx, hb, hml, hown, hts⟩ (m_X3_isInn l D g H.size adM kM (o_a tQ) M x1 r1 hc1) (cwV 1 hts (lw_V q1651 q1653 qs41 q79 q1654) rfl rfl rfl (by decide +kernel) ⟨Nat.le_of_ble_eq_true rfl, Nat.le_of_ble_eq_true rfl⟩) (b_preV (pp := 0) (q := 0) hW hp1 rfl mW_0 rfl) rfl rfl hl.1 rfl (lv_room (Nat.le_of_ble_eq_true rfl)) dX3_recovers_2 ⟨o_q2 hq0.1, o_q2 hq0.2⟩) hW hp1 (fun _ _ H locs hW => ?_)
  have hW : bW D g A s H locs [mW g adM kM (o_a tQ) M, oM g tQ] := hW
  refine lv_if_ne (tgt := 15) hx hb dX3_recovers_5 (by decide) (fun c2 => ?_) (fun c2 => ?_)
  · have hf := o_f hf c2
    refine lv_aload_n hx hb dX3_recovers_15 rfl (lv_at hl 0 rfl) ?_
    obtain ⟨T3, hc4, hf⟩ := o_b1s hf
    have hp4 : List.Perm [mW g adM kM (o_a tQ) M, oM g tQ] ([mW g adM kM (o_a tQ) M, oM g tQ] ++ []) := b_perm [0, 1] [] 2 rfl rfl rfl rfl
    refine b_call (va_runV (As := []) (rest := []) ⟨hx, hb, hml, hown, hts⟩ (m_X3_fresh l D g H.size adM kM tQ fu M T3 hc4) (cwV 0 hts (lw_V q1701 q1703 qs45 q79 q1704) rfl rfl rfl (by decide +kernel) ⟨Nat.le_of_ble_eq_true rfl, Nat.le_of_ble_eq_true rfl⟩) (b_preV (pp := 0) (q := 0) hW hp4 rfl mW_0 rfl) rfl rfl hl.1 rfl (lv_room (Nat.le_of_ble_eq_true rfl)) dX3_recovers_16 ⟨hq0.1, hq0.2⟩) hW hp4 (fun ad4 _ H locs hW => ?_)
    refine W.cs (cells' := (0 + o_k 45 tQ)) (slots' := (0 + o_k 842 tQ)) rfl rfl ?_
    have hq5 : (0 + o_k 45 tQ) + o_k 45 (some (ad4, T3)) ≤ o_k 45 tQ ∧ (0 + o_k 842 tQ) + o_k 842 (some (ad4, T3)) ≤ o_k 842 tQ := hq0
    have hW : bW D g A s H locs [mW g adM kM (some (ad4 0)) M, mW g ad4 none none T3] := hW
    refine lv_astore_n (lv' := [(2, .ref (ad4 0)), (0, .ref (adM 0)), (1, .int x1)]) hx hb dX3_recovers_19 rfl hl (by decide) rfl (fun ls hl => ?_)
    refine lv_iconst (v := 0) hx hb dX3_recovers_20 (by decide) ?_
    refine lv_istore_n (lv' := [(3, .int 0), (2, .ref (ad4 0)), (0, .ref (adM 0)), (1, .int x1)]) hx hb dX3_recovers_21 rfl hl (by decide) rfl (fun ls hl => ?_)
    obtain ⟨stp6, est6, hf⟩ := o_ln hf
    have L6 : ∀ (n : Nat) (v7 : Int32) (Q8 : BC) (H : Heap) (locs : List Loc) (ls : Array Slot), bW D g A s H locs [mW g adM kM (some (ad4 0)) M, mW g ad4 none none Q8] → lv_has ls 4 [(3, .int v7), (2, .ref (ad4 0)), (0, .ref (adM 0)), (1, .int x1)] → o_lp stp6 n (v7, Q8) = some (rO, MO, TO) → W p l e (rm_X3_recovers tQ) s m args below meth c H locs (0 + o_k 45 tQ) (0 + o_k 842 tQ) Q (F0 m 22 ls []) := by
      intro n6
      induction n6 with
      | zero => intro v7 Q8 H locs ls hW hl hf; exact (o_lz hf).elim
      | succ n6 ih6 =>
        intro v7 Q8 H locs ls hW hl hf
        have hf := o_lu est6 hf
        rw [f_X3_recovers_L22] at hf
        refine lv_iload_n hx hb dX3_recovers_22 rfl (lv_at hl 0 rfl) ?_
        refine lv_aload_n hx hb dX3_recovers_23 rfl (lv_at hl 2 rfl) ?_
        refine b_get hx hb hts in_X3 hown hW 0 0 3 9 rfl mW_0 rfl (by decide) ⟨rfl, rfl, rfl⟩ (hts _ q1468) mW_g9 dX3_recovers_24 ?_
        refine lv_icmp_ge (tgt := 45) hx hb dX3_recovers_27 (by decide) (fun c9 => ?_) (fun c9 => ?_)
        · have hf := o_t hf c9
          refine lv_iconst (v := 1) hx hb dX3_recovers_45 (by decide) ?_
          refine lv_istore_n (lv' := [(3, .int 1), (2, .ref (ad4 0)), (0, .ref (adM 0)), (1, .int x1)]) hx hb dX3_recovers_46 rfl hl (by decide) rfl (fun ls hl => ?_)
          obtain ⟨stp10, est10, hf⟩ := o_ln hf
          have L10 : ∀ (n : Nat) (v11 : Int32) (Q12 : BC) (H : Heap) (locs : List Loc) (ls : Array Slot), bW D g A s H locs [mW g adM kM (some (ad4 0)) M, mW g ad4 none none Q12] → lv_has ls 4 [(3, .int v11), (2, .ref (ad4 0)), (1, .int x1)] → o_lp stp10 n (v11, Q12) = some (rO, MO, TO) → W p l e (rm_X3_recovers tQ) s m args below meth c H locs (0 + o_k 45 tQ) (0 + o_k 842 tQ) Q (F0 m 47 ls []) := by
            intro n10
            induction n10 with
            | zero => intro v11 Q12 H locs ls hW hl hf; exact (o_lz hf).elim
            | succ n10 ih10 =>
              intro v11 Q12 H locs ls hW hl hf
              have hf := o_lu est10 hf
              rw [f_X3_recovers_L47] at hf
              refine lv_iload_n hx hb dX3_recovers_47 rfl (lv_at hl 0 rfl) ?_
              refine lv_bipush (v := 30) hx hb dX3_recovers_48 (by decide) ?_
              refine lv_icmp_gt (tgt := 84) hx hb dX3_recovers_50 (by decide) (fun c13 => ?_) (fun c13 => ?_)
              · have hf := o_t hf c13
                refine lv_iconst (v := (-1)) hx hb dX3_recovers_84 (by decide) ?_
                refine W.widen (k := o_k 45 tQ) (n := o_k 842 tQ) (o_q3 hq5.1) (o_q3 hq5.2) ?_
                cases hf
                exact b_iret hx hb hr hlk hE hW (some (ad4, Q12)) rfl rfl rfl dX3_recovers_85
              · have hf := o_f hf c13
                refine lv_aload_n hx hb dX3_recovers_53 rfl (lv_at hl 1 rfl) ?_
                obtain ⟨Q14, hc14, hf⟩ := o_b1s hf
                have hp14 : List.Perm [mW g adM kM (some (ad4 0)) M, mW g ad4 none none Q12] ([mW g ad4 none none Q12] ++ [mW g adM kM (some (ad4 0)) M]) := b_perm [1] [0] 2 rfl rfl rfl rfl
                refine b_call0 ⟨rfl, rfl⟩ (va_runV (As := []) (rest := []) ⟨hx, hb, hml, hown, hts⟩ (m_X3_yearGoesBy l D g H.size ad4 none none fu Q12 Q14 hc14) (cwV 0 hts (lw_V q1926 q1928 qs69 q79 q1929) rfl rfl rfl (by decide +kernel) ⟨Nat.le_of_ble_eq_true rfl, Nat.le_of_ble_eq_true rfl⟩) (b_preV (pp := 1) (q := 0) hW hp14 rfl mW_0 rfl) rfl rfl hl.1 rfl (lv_room (Nat.le_of_ble_eq_true rfl)) dX3_recovers_54 ⟨o_q2 hq5.1, o_q2 hq5.2⟩) hW hp14 (fun _ _ H locs hW => ?_)
                have hW : bW D g A s H locs [mW g ad4 none none Q14, mW g adM kM (some (ad4 0)) M] := hW
                refine lv_aload_n hx hb dX3_recovers_57 rfl (lv_at hl 1 rfl) ?_
                refine b_get hx hb hts in_X3 hown hW 0 0 3 10 rfl mW_0 rfl (by decide) ⟨rfl, rfl, rfl⟩ (hts _ q1469) mW_g10 dX3_recovers_58 ?_
                refine lv_iload_n hx hb dX3_recovers_61 rfl (lv_at hl 2 rfl) ?_
                obtain ⟨h15, hf⟩ := o_cs hf
                refine b_agrI hx hb hW 0 17 rfl mW_17 h15 dX3_recovers_62 ?_
                refine lv_iconst (v := 0) hx hb dX3_recovers_63 (by decide) ?_
                refine b_iald hx hb hW 0 (18 + ix x1) rfl (mW_r18 (inB_lt h15)) (by decide) dX3_recovers_64 ?_
                refine lv_aload_n hx hb dX3_recovers_65 rfl (lv_at hl 1 rfl) ?_
                refine b_get hx hb hts in_X3 hown hW 0 0 3 10 rfl mW_0 rfl (by decide) ⟨rfl, rfl, rfl⟩ (hts _ q1469) mW_g10 dX3_recovers_66 ?_
                refine lv_iload_n hx hb dX3_recovers_69 rfl (lv_at hl 2 rfl) ?_
                refine b_agrI hx hb hW 0 17 rfl mW_17 h15 dX3_recovers_70 ?_
                refine lv_iconst (v := 1) hx hb dX3_recovers_71 (by decide) ?_
                refine b_iald hx hb hW 0 (18 + ix x1) rfl (mW_r18 (inB_lt h15)) (by decide) dX3_recovers_72 ?_
                refine lv_icmp_lt (tgt := 78) hx hb dX3_recovers_73 (by decide) (fun c16 => ?_) (fun c16 => ?_)
                · have hf := o_t hf c16
                  obtain ⟨v17, ev17, hf⟩ := o_ls hf
                  refine lv_iinc (v := v17) (lv' := [(3, .int v17), (2, .ref (ad4 0)), (1, .int x1)]) hx hb dX3_recovers_78 hl (k := 0) rfl ev17 (by decide) rfl (fun ls hl => ?_)
                  refine lv_goto (tgt := 47) hx hb dX3_recovers_81 (by decide) ?_
                  exact ih10 _ _ _ _ _ (b_perms hW (b_ord [1, 0] 2 rfl rfl rfl)) (lv_sub hl [0, 1, 2] rfl) hf
                · have hf := o_f hf c16
                  refine lv_iload_n hx hb dX3_recovers_76 rfl (lv_at hl 0 rfl) ?_
                  refine W.widen (k := o_k 45 tQ) (n := o_k 842 tQ) (o_q3 hq5.1) (o_q3 hq5.2) ?_
                  cases hf
                  exact b_iret hx hb hr hlk hE (b_perms hW (b_ord [1, 0] 2 rfl rfl rfl)) (some (ad4, Q14)) rfl rfl rfl dX3_recovers_77
          exact L10 _ _ _ _ _ _ hW (lv_sub hl [0, 1, 3] rfl) hf
        · have hf := o_f hf c9
          refine lv_aload_n hx hb dX3_recovers_30 rfl (lv_at hl 1 rfl) ?_
          refine b_get hx hb hts in_X3 hown hW 1 0 3 10 rfl mW_0 rfl (by decide) ⟨rfl, rfl, rfl⟩ (hts _ q1469) mW_g10 dX3_recovers_31 ?_
          refine lv_iload_n hx hb dX3_recovers_34 rfl (lv_at hl 0 rfl) ?_
          obtain ⟨h18, hf⟩ := o_cs hf
          refine b_agrI hx hb hW 1 17 rfl mW_17 h18 dX3_recovers_35 ?_
          refine lv_iconst (v := 4) hx hb dX3_recovers_36 (by decide) ?_
          refine lv_iconst (v := (-1)) hx hb dX3_recovers_37 (by decide) ?_
          obtain ⟨Q19, eQ19, hf⟩ := o_ls hf
          refine b_iast hx hb hW 1 (18 + ix v7) rfl (mW_r18 (inB_lt h18)) (mW_rs18 (inB_lt h18) eQ19) rfl (by decide) dX3_recovers_38 (fun H locs hW => ?_)
          have hW : bW D g A s H locs [mW g adM kM (some (ad4 0)) M, mW g ad4 none none Q19] := hW
          obtain ⟨v20, ev20, hf⟩ := o_ls hf
          refine lv_iinc (v := v20) (lv' := [(3, .int v20), (2, .ref (ad4 0)), (0, .ref (adM 0)), (1, .int x1)]) hx hb dX3_recovers_39 hl (k := 0) rfl ev20 (by decide) rfl (fun ls hl => ?_)
          refine lv_goto (tgt := 22) hx hb dX3_recovers_42 (by decide) ?_
          exact ih6 _ _ _ _ _ hW (lv_sub hl [0, 1, 2, 3] rfl) hf
    exact L6 _ _ _ _ _ _ hW (lv_sub hl [0, 1, 2, 3] rfl) hf
  · have hf := o_t hf c2
    refine lv_aload_n hx hb dX3_recovers_8 rfl (lv_at hl 0 rfl) ?_
    refine lv_bipush (v := (-2)) hx hb dX3_recovers_9 (by decide) ?_
    obtain ⟨r21, M22, hc22, hf⟩ := o_b2s hf
    have hp22 : List.Perm [mW g adM kM (o_a tQ) M, oM g tQ] ([mW g adM kM (o_a tQ) M] ++ [oM g tQ]) := b_perm [0] [1] 2 rfl rfl rfl rfl
    refine b_call0 ⟨rfl, rfl⟩ (va_runV (As := [.int (-2)]) (rest := []) ⟨hx, hb, hml, hown, hts⟩ (m_X3_refuse l D g H.size adM kM (o_a tQ) M (-2) r21 M22 hc22) (cwV 1 hts (lw_V q1572 q1574 qs33 q79 q1575) rfl rfl rfl (by decide +kernel) ⟨Nat.le_of_ble_eq_true rfl, Nat.le_of_ble_eq_true rfl⟩) (b_preV (pp := 0) (q := 0) hW hp22 rfl mW_0 rfl) rfl rfl hl.1 rfl (lv_room (Nat.le_of_ble_eq_true rfl)) dX3_recovers_11 ⟨o_q2 hq0.1, o_q2 hq0.2⟩) hW hp22 (fun _ _ H locs hW => ?_)
    have hW : bW D g A s H locs [mW g adM kM (o_a tQ) M22, oM g tQ] := hW
    refine W.widen (k := o_k 45 tQ) (n := o_k 842 tQ) (o_q3 hq0.1) (o_q3 hq0.2) ?_
    cases hf
    exact b_iret hx hb hr hlk hE hW tQ rfl rfl rfl dX3_recovers_14
def f_X3_dearest_L60 (x1 : Int32) (x2 : Int32) (fu : Nat) (v8 : Int32) (v9 : Int32) (v10 : Int32) (rec7 : (Int32 × Int32 × Int32 × Option BC) → Option (Int32 × BC × Option BC)) (rec18 : (Int32 × Int32 × BC) → Option (Int32 × BC × Option BC)) : Int32 × Int32 × BC → Option (Int32 × BC × Option BC)
  | (v19, v20, Q21) =>
    (if x1 ≤ v20 then
     (if v19 ≤ v9 then
     o_lt (v10 + 1) fun (v24 : Int32) =>
     rec7 (v8, v9, v24, (some Q21))
     else
     o_lt (v10 + 1) fun (v25 : Int32) =>
     rec7 (v10, v19, v25, (some Q21)))
     else
     o_b1 (f_X3_yearGoesBy fu Q21) fun (Q26 : BC) =>
     o_lt (v19 + (Q26.1 43 (ix x2))) fun (v27 : Int32) =>
     o_lt (v20 + 1) fun (v28 : Int32) =>
     rec18 (v27, v28, Q26))
def f_X3_dearest_L30 (M : BC) (x1 : Int32) (x2 : Int32) (fu : Nat) (rec7 : (Int32 × Int32 × Int32 × Option BC) → Option (Int32 × BC × Option BC)) : Int32 × Int32 × Int32 × Option BC → Option (Int32 × BC × Option BC)
  | (v8, v9, v10, q11) =>
    (if (99 : Int32) < v10 then
     some (v8, M, q11)
     else
     o_b1 (f_X3_fresh fu M q11) fun (T13 : BC) =>
     o_ck (inB x2 6) (o_lt (bI T13 (18 + ix x2) (upd (T13.1 (18 + ix x2)) (ix 3) v10)) fun (Q17 : BC) =>
     o_lp (f_X3_dearest_L60 x1 x2 fu v8 v9 v10 rec7) fu (0, 0, Q17)))
def f_X3_dearest (fu : Nat) (M : BC) (To : Option BC) (x1 : Int32) (x2 : Int32) : Option (Int32 × BC × Option BC) :=
 o_b1 (f_X3_isYears x1) fun (r1 : Int32) =>
 (if r1 = 0 then
 o_b2 (f_X3_refuse M (-2)) fun (r3 : Int32) (M4 : BC) =>
 some (r3, M4, To)
 else
 o_b1 (f_X3_isInn M x2) fun (r5 : Int32) =>
 (if r5 = 0 then
 o_b2 (f_X3_refuse M (-2)) fun (r29 : Int32) (M30 : BC) =>
 some (r29, M30, To)
 else
 o_lp (f_X3_dearest_L30 M x1 x2 fu) fu (0, (-1), 0, To)))
abbrev rm_X3_dearest (tQ : Option ((Nat → Nat) × BC)) : Room := { frames := 5, cells := o_k 45 tQ, slots := o_k 842 tQ, locals := 119 }
set_option maxHeartbeats 4000000 in
set_option maxRecDepth 100000 in
theorem m_X3_dearest (l : Launch) (D : va_G) (g : Nat → ClassId) (sz : Nat) (adM : Nat → Nat) (kM : Option Nat) (tQ : Option ((Nat → Nat) × BC)) (fu : Nat) (M : BC) (x1 : Int32) (x2 : Int32) (rO : Int32) (MO : BC) (TO : Option BC) (hf : f_X3_dearest fu M (tQ.map Prod.snd) x1 x2 = some (rO, MO, TO)) : bMet (S := Option ((Nat → Nat) × BC)) l yX3_dearest (ws_ yX3_dearest cX3_dearest 9 (some .int)) (rm_X3_dearest tQ) D g sz [.ref (adM 0), .int x1, .int x2] [mW g adM kM (o_a tQ) M, oM g tQ] (fun tQ1 => tQ1.map Prod.snd = TO) (fun _ => some (.int rO)) (fun tQ1 => [mW g adM kM (o_a tQ1) MO, oM g tQ1]) := by
  refine b_met (by decide) (Nat.le_of_ble_eq_true rfl) ?_
  intro p e s m args below meth c A Q ls hx hb hml hr hlk hown hname hts hE hl hW
  revert hW; generalize s.heap = H; intro hW
  have hl : lv_has ls 9 [(0, .ref (adM 0)), (1, .int x1), (2, .int x2)] := hl
  rw [f_X3_dearest] at hf
  have hq0 : 0 + o_k 45 tQ ≤ o_k 45 tQ ∧ 0 + o_k 842 tQ ≤ o_k 842 tQ := ⟨Nat.le_of_eq (Nat.zero_add _), Nat.le_of_eq (Nat.zero_add _)⟩
  refine lv_iload_n hx hb dX3_dearest_0 rfl (lv_at hl 1 rfl) ?_
  obtain ⟨r1, hc1, hf⟩ := o_b1s hf
  have hp1 : List.Perm [mW g adM kM (o_a tQ) M, oM g tQ] ([] ++ [mW g adM kM (o_a tQ) M, oM g tQ]) := b_perm [] [0, 1] 2 rfl rfl rfl rfl
  refine b_call0 ⟨rfl, rfl⟩ (va_runS (As := [.int x1]) (rest := []) ⟨hx, hb, hml, hown, hts⟩ (m_X3_isYears l D g H.size x1 r1 hc1) (va_cwS 1 hts (lw_S q1918 q1919 q79 q1920) rfl rfl rfl (by decide +kernel) ⟨Nat.le_of_ble_eq_true rfl, Nat.le_of_ble_eq_true rfl⟩) (b_preS hW hp1) rfl rfl hl.1 rfl (lv_room (Nat.le_of_ble_eq_true rfl)) dX3_dearest_1 ⟨o_q2 hq0.1, o_q2 hq0.2⟩) hW hp1 (fun _ _ H locs hW => ?_)
  have hW : bW D g A s H locs [mW g adM kM (o_a tQ) M, oM g tQ] := hW
  refine lv_if_eq (tgt := 15) hx hb dX3_dearest_4 (by decide) (fun c2 => ?_) (fun c2 => ?_)
  · have hf := o_t hf c2
    refine lv_aload_n hx hb dX3_dearest_15 rfl (lv_at hl 0 rfl) ?_
    refine lv_bipush (v := (-2)) hx hb dX3_dearest_16 (by decide) ?_
    obtain ⟨r3, M4, hc4, hf⟩ := o_b2s hf
    have hp4 : List.Perm [mW g adM kM (o_a tQ) M, oM g tQ] ([mW g adM kM (o_a tQ) M] ++ [oM g tQ]) := b_perm [0] [1] 2 rfl rfl rfl rfl
    refine b_call0 ⟨rfl, rfl⟩ (va_runV (As := [.int (-2)]) (rest := []) ⟨hx, hb, hml, hown, hts⟩ (m_X3_refuse l D g H.size adM kM (o_a tQ) M (-2) r3 M4 hc4) (cwV 1 hts (lw_V q1572 q1574 qs33 q79 q1575) rfl rfl rfl (by decide +kernel) ⟨Nat.le_of_ble_eq_true rfl, Nat.le_of_ble_eq_true rfl⟩) (b_preV (pp := 0) (q := 0) hW hp4 rfl mW_0 rfl) rfl rfl hl.1 rfl (lv_room (Nat.le_of_ble_eq_true rfl)) dX3_dearest_18 ⟨o_q2 hq0.1, o_q2 hq0.2⟩) hW hp4 (fun _ _ H locs hW => ?_)
    have hW : bW D g A s H locs [mW g adM kM (o_a tQ) M4, oM g tQ] := hW
    refine W.widen (k := o_k 45 tQ) (n := o_k 842 tQ) (o_q3 hq0.1) (o_q3 hq0.2) ?_
    cases hf
    exact b_iret hx hb hr hlk hE hW tQ rfl rfl rfl dX3_dearest_21
  · have hf := o_f hf c2
    refine lv_aload_n hx hb dX3_dearest_7 rfl (lv_at hl 0 rfl) ?_
    refine lv_iload_n hx hb dX3_dearest_8 rfl (lv_at hl 2 rfl) ?_
    obtain ⟨r5, hc5, hf⟩ := o_b1s hf
    have hp5 : List.Perm [mW g adM kM (o_a tQ) M, oM g tQ] ([mW g adM kM (o_a tQ) M] ++ [oM g tQ]) := b_perm [0] [1] 2 rfl rfl rfl rfl
    refine b_call0 ⟨rfl, rfl⟩ (va_runV (As := [.int x2]) (rest := []) ⟨hx, hb, hml, hown, hts⟩ (m_X3_isInn l D g H.size adM kM (o_a tQ) M x2 r5 hc5) (cwV 1 hts (lw_V q1651 q1653 qs41 q79 q1654) rfl rfl rfl (by decide +kernel) ⟨Nat.le_of_ble_eq_true rfl, Nat.le_of_ble_eq_true rfl⟩) (b_preV (pp := 0) (q := 0) hW hp5 rfl mW_0 rfl) rfl rfl hl.1 rfl (lv_room (Nat.le_of_ble_eq_true rfl)) dX3_dearest_9 ⟨o_q2 hq0.1, o_q2 hq0.2⟩) hW hp5 (fun _ _ H locs hW => ?_)
    have hW : bW D g A s H locs [mW g adM kM (o_a tQ) M, oM g tQ] := hW
    refine lv_if_ne (tgt := 22) hx hb dX3_dearest_12 (by decide) (fun c6 => ?_) (fun c6 => ?_)
    · have hf := o_f hf c6
      refine lv_iconst (v := 0) hx hb dX3_dearest_22 (by decide) ?_
      refine lv_istore_n (lv' := [(3, .int 0), (0, .ref (adM 0)), (1, .int x1), (2, .int x2)]) hx hb dX3_dearest_23 rfl hl (by decide) rfl (fun ls hl => ?_)
      refine lv_iconst (v := (-1)) hx hb dX3_dearest_24 (by decide) ?_
      refine lv_istore (lv' := [(4, .int (-1)), (3, .int 0), (0, .ref (adM 0)), (1, .int x1), (2, .int x2)]) hx hb dX3_dearest_25 hl (by decide) rfl (fun ls hl => ?_)
      refine lv_iconst (v := 0) hx hb dX3_dearest_27 (by decide) ?_
      refine lv_istore (lv' := [(5, .int 0), (4, .int (-1)), (3, .int 0), (0, .ref (adM 0)), (1, .int x1), (2, .int x2)]) hx hb dX3_dearest_28 hl (by decide) rfl (fun ls hl => ?_)
      obtain ⟨stp7, est7, hf⟩ := o_ln hf
      have L7 : ∀ (n : Nat) (v8 : Int32) (v9 : Int32) (v10 : Int32) (tq11 : Option ((Nat → Nat) × BC)) (cq11 sq11 : Nat) (hq11 : cq11 + o_k 45 tq11 ≤ o_k 45 tQ ∧ sq11 + o_k 842 tq11 ≤ o_k 842 tQ) (H : Heap) (locs : List Loc) (ls : Array Slot), bW D g A s H locs [mW g adM kM (o_a tq11) M, oM g tq11] → lv_has ls 9 [(5, .int v10), (4, .int v9), (3, .int v8), (0, .ref (adM 0)), (1, .int x1), (2, .int x2)] → o_lp stp7 n (v8, v9, v10, (tq11.map Prod.snd)) = some (rO, MO, TO) → W p l e (rm_X3_dearest tQ) s m args below meth c H locs cq11 sq11 Q (F0 m 30 ls []) := by
        intro n7
        induction n7 with
        | zero => intro v8 v9 v10 tq11 cq11 sq11 hq11 H locs ls hW hl hf; exact (o_lz hf).elim
        | succ n7 ih7 =>
          intro v8 v9 v10 tq11 cq11 sq11 hq11 H locs ls hW hl hf
          have hf := o_lu est7 hf
          rw [f_X3_dearest_L30] at hf
          refine lv_iload hx hb dX3_dearest_30 (lv_at hl 0 rfl) ?_
          refine lv_bipush (v := 99) hx hb dX3_dearest_32 (by decide) ?_
          refine lv_icmp_gt (tgt := 109) hx hb dX3_dearest_34 (by decide) (fun c12 => ?_) (fun c12 => ?_)
          · have hf := o_t hf c12
            refine lv_iload_n hx hb dX3_dearest_109 rfl (lv_at hl 2 rfl) ?_
            refine W.widen (k := o_k 45 tQ) (n := o_k 842 tQ) (o_q3 hq11.1) (o_q3 hq11.2) ?_
            cases hf
            exact b_iret hx hb hr hlk hE hW tq11 rfl rfl rfl dX3_dearest_110
          · have hf := o_f hf c12
            refine lv_aload_n hx hb dX3_dearest_37 rfl (lv_at hl 3 rfl) ?_
            obtain ⟨T13, hc14, hf⟩ := o_b1s hf
            have hp14 : List.Perm [mW g adM kM (o_a tq11) M, oM g tq11] ([mW g adM kM (o_a tq11) M, oM g tq11] ++ []) := b_perm [0, 1] [] 2 rfl rfl rfl rfl
            refine b_call (va_runV (As := []) (rest := []) ⟨hx, hb, hml, hown, hts⟩ (m_X3_fresh l D g H.size adM kM tq11 fu M T13 hc14) (cwV 0 hts (lw_V q1701 q1703 qs45 q79 q1704) rfl rfl rfl (by decide +kernel) ⟨Nat.le_of_ble_eq_true rfl, Nat.le_of_ble_eq_true rfl⟩) (b_preV (pp := 0) (q := 0) hW hp14 rfl mW_0 rfl) rfl rfl hl.1 rfl (lv_room (Nat.le_of_ble_eq_true rfl)) dX3_dearest_38 ⟨hq11.1, hq11.2⟩) hW hp14 (fun ad14 _ H locs hW => ?_)
            refine W.cs (cells' := (cq11 + o_k 45 tq11)) (slots' := (sq11 + o_k 842 tq11)) rfl rfl ?_
            have hq15 : (cq11 + o_k 45 tq11) + o_k 45 (some (ad14, T13)) ≤ o_k 45 tQ ∧ (sq11 + o_k 842 tq11) + o_k 842 (some (ad14, T13)) ≤ o_k 842 tQ := hq11
            have hW : bW D g A s H locs [mW g adM kM (some (ad14 0)) M, mW g ad14 none none T13] := hW
            refine lv_astore (lv' := [(6, .ref (ad14 0)), (5, .int v10), (4, .int v9), (3, .int v8), (0, .ref (adM 0)), (1, .int x1), (2, .int x2)]) hx hb dX3_dearest_41 hl (by decide) rfl (fun ls hl => ?_)
            refine lv_aload hx hb dX3_dearest_43 (lv_at hl 0 rfl) ?_
            refine b_get hx hb hts in_X3 hown hW 1 0 3 10 rfl mW_0 rfl (by decide) ⟨rfl, rfl, rfl⟩ (hts _ q1469) mW_g10 dX3_dearest_45 ?_
            refine lv_iload_n hx hb dX3_dearest_48 rfl (lv_at hl 6 rfl) ?_
            obtain ⟨h16, hf⟩ := o_cs hf
            refine b_agrI hx hb hW 1 17 rfl mW_17 h16 dX3_dearest_49 ?_
            refine lv_iconst (v := 3) hx hb dX3_dearest_50 (by decide) ?_
            refine lv_iload hx hb dX3_dearest_51 (lv_at hl 1 rfl) ?_
            obtain ⟨Q17, eQ17, hf⟩ := o_ls hf
            refine b_iast hx hb hW 1 (18 + ix x2) rfl (mW_r18 (inB_lt h16)) (mW_rs18 (inB_lt h16) eQ17) rfl (by decide) dX3_dearest_53 (fun H locs hW => ?_)
            have hW : bW D g A s H locs [mW g adM kM (some (ad14 0)) M, mW g ad14 none none Q17] := hW
            refine lv_iconst (v := 0) hx hb dX3_dearest_54 (by decide) ?_
            refine lv_istore (lv' := [(7, .int 0), (6, .ref (ad14 0)), (5, .int v10), (4, .int v9), (3, .int v8), (0, .ref (adM 0)), (1, .int x1), (2, .int x2)]) hx hb dX3_dearest_55 hl (by decide) rfl (fun ls hl => ?_)
            refine lv_iconst (v := 0) hx hb dX3_dearest_57 (by decide) ?_
            refine lv_istore (lv' := [(8, .int 0), (7, .int 0), (6, .ref (ad14 0)), (5, .int v10), (4, .int v9), (3, .int v8), (0, .ref (adM 0)), (1, .int x1), (2, .int x2)]) hx hb dX3_dearest_58 hl (by decide) rfl (fun ls hl => ?_)
            obtain ⟨stp18, est18, hf⟩ := o_ln hf
            have L18 : ∀ (n : Nat) (v19 : Int32) (v20 : Int32) (Q21 : BC) (H : Heap) (locs : List Loc) (ls : Array Slot), bW D g A s H locs [mW g adM kM (some (ad14 0)) M, mW g ad14 none none Q21] → lv_has ls 9 [(8, .int v20), (7, .int v19), (6, .ref (ad14 0)), (5, .int v10), (4, .int v9), (3, .int v8), (0, .ref (adM 0)), (1, .int x1), (2, .int x2)] → o_lp stp18 n (v19, v20, Q21) = some (rO, MO, TO) → W p l e (rm_X3_dearest tQ) s m args below meth c H locs (cq11 + o_k 45 tq11) (sq11 + o_k 842 tq11) Q (F0 m 60 ls []) := by
              intro n18
              induction n18 with
              | zero => intro v19 v20 Q21 H locs ls hW hl hf; exact (o_lz hf).elim
              | succ n18 ih18 =>
                intro v19 v20 Q21 H locs ls hW hl hf
                have hf := o_lu est18 hf
                rw [f_X3_dearest_L60] at hf
                refine lv_iload hx hb dX3_dearest_60 (lv_at hl 0 rfl) ?_
                refine lv_iload_n hx hb dX3_dearest_62 rfl (lv_at hl 7 rfl) ?_
                refine lv_icmp_ge (tgt := 89) hx hb dX3_dearest_63 (by decide) (fun c22 => ?_) (fun c22 => ?_)
                · have hf := o_t hf c22
                  refine lv_iload hx hb dX3_dearest_89 (lv_at hl 1 rfl) ?_
                  refine lv_iload hx hb dX3_dearest_91 (lv_at hl 4 rfl) ?_
                  refine lv_icmp_le (tgt := 103) hx hb dX3_dearest_93 (by decide) (fun c23 => ?_) (fun c23 => ?_)
                  · have hf := o_t hf c23
                    obtain ⟨v24, ev24, hf⟩ := o_ls hf
                    refine lv_iinc (v := v24) (lv' := [(5, .int v24), (8, .int v20), (7, .int v19), (6, .ref (ad14 0)), (4, .int v9), (3, .int v8), (0, .ref (adM 0)), (1, .int x1), (2, .int x2)]) hx hb dX3_dearest_103 hl (k := 3) rfl ev24 (by decide) rfl (fun ls hl => ?_)
                    refine lv_goto (tgt := 30) hx hb dX3_dearest_106 (by decide) ?_
                    exact ih7 _ _ _ (some (ad14, Q21)) ((cq11 + o_k 45 tq11)) ((sq11 + o_k 842 tq11)) hq15 _ _ _ hW (lv_sub hl [0, 4, 5, 6, 7, 8] rfl) hf
                  · have hf := o_f hf c23
                    refine lv_iload hx hb dX3_dearest_96 (lv_at hl 3 rfl) ?_
                    refine lv_istore_n (lv' := [(3, .int v10), (8, .int v20), (7, .int v19), (6, .ref (ad14 0)), (5, .int v10), (4, .int v9), (0, .ref (adM 0)), (1, .int x1), (2, .int x2)]) hx hb dX3_dearest_98 rfl hl (by decide) rfl (fun ls hl => ?_)
                    refine lv_iload hx hb dX3_dearest_99 (lv_at hl 2 rfl) ?_
                    refine lv_istore (lv' := [(4, .int v19), (3, .int v10), (8, .int v20), (7, .int v19), (6, .ref (ad14 0)), (5, .int v10), (0, .ref (adM 0)), (1, .int x1), (2, .int x2)]) hx hb dX3_dearest_101 hl (by decide) rfl (fun ls hl => ?_)
                    obtain ⟨v25, ev25, hf⟩ := o_ls hf
                    refine lv_iinc (v := v25) (lv' := [(5, .int v25), (4, .int v19), (3, .int v10), (8, .int v20), (7, .int v19), (6, .ref (ad14 0)), (0, .ref (adM 0)), (1, .int x1), (2, .int x2)]) hx hb dX3_dearest_103 hl (k := 5) rfl ev25 (by decide) rfl (fun ls hl => ?_)
                    refine lv_goto (tgt := 30) hx hb dX3_dearest_106 (by decide) ?_
                    exact ih7 _ _ _ (some (ad14, Q21)) ((cq11 + o_k 45 tq11)) ((sq11 + o_k 842 tq11)) hq15 _ _ _ hW (lv_sub hl [0, 1, 2, 6, 7, 8] rfl) hf
                · have hf := o_f hf c22
                  refine lv_aload hx hb dX3_dearest_66 (lv_at hl 2 rfl) ?_
                  obtain ⟨Q26, hc26, hf⟩ := o_b1s hf
                  have hp26 : List.Perm [mW g adM kM (some (ad14 0)) M, mW g ad14 none none Q21] ([mW g ad14 none none Q21] ++ [mW g adM kM (some (ad14 0)) M]) := b_perm [1] [0] 2 rfl rfl rfl rfl
                  refine b_call0 ⟨rfl, rfl⟩ (va_runV (As := []) (rest := []) ⟨hx, hb, hml, hown, hts⟩ (m_X3_yearGoesBy l D g H.size ad14 none none fu Q21 Q26 hc26) (cwV 0 hts (lw_V q1926 q1928 qs69 q79 q1929) rfl rfl rfl (by decide +kernel) ⟨Nat.le_of_ble_eq_true rfl, Nat.le_of_ble_eq_true rfl⟩) (b_preV (pp := 1) (q := 0) hW hp26 rfl mW_0 rfl) rfl rfl hl.1 rfl (lv_room (Nat.le_of_ble_eq_true rfl)) dX3_dearest_68 ⟨o_q2 hq15.1, o_q2 hq15.2⟩) hW hp26 (fun _ _ H locs hW => ?_)
                  have hW : bW D g A s H locs [mW g ad14 none none Q26, mW g adM kM (some (ad14 0)) M] := hW
                  refine lv_iload hx hb dX3_dearest_71 (lv_at hl 1 rfl) ?_
                  refine lv_aload hx hb dX3_dearest_73 (lv_at hl 2 rfl) ?_
                  refine b_get hx hb hts in_X3 hown hW 0 0 3 31 rfl mW_0 rfl (by decide) ⟨rfl, rfl, rfl⟩ (hts _ q1490) mW_g31 dX3_dearest_75 ?_
                  refine lv_iload_n hx hb dX3_dearest_78 rfl (lv_at hl 8 rfl) ?_
                  refine b_iald hx hb hW 0 43 rfl mW_43 h16 dX3_dearest_79 ?_
                  refine lv_iadd hx hb dX3_dearest_80 ?_
                  obtain ⟨v27, ev27, hf⟩ := o_ls hf
                  refine b_topi ev27 ?_
                  refine lv_istore (lv' := [(7, .int v27), (8, .int v20), (6, .ref (ad14 0)), (5, .int v10), (4, .int v9), (3, .int v8), (0, .ref (adM 0)), (1, .int x1), (2, .int x2)]) hx hb dX3_dearest_81 hl (by decide) rfl (fun ls hl => ?_)
                  obtain ⟨v28, ev28, hf⟩ := o_ls hf
                  refine lv_iinc (v := v28) (lv' := [(8, .int v28), (7, .int v27), (6, .ref (ad14 0)), (5, .int v10), (4, .int v9), (3, .int v8), (0, .ref (adM 0)), (1, .int x1), (2, .int x2)]) hx hb dX3_dearest_83 hl (k := 1) rfl ev28 (by decide) rfl (fun ls hl => ?_)
                  refine lv_goto (tgt := 60) hx hb dX3_dearest_86 (by decide) ?_
                  exact ih18 _ _ _ _ _ _ (b_perms hW (b_ord [1, 0] 2 rfl rfl rfl)) (lv_sub hl [0, 1, 2, 3, 4, 5, 6, 7, 8] rfl) hf
            exact L18 _ _ _ _ _ _ _ hW (lv_sub hl [0, 1, 2, 3, 4, 5, 6, 7, 8] rfl) hf
      exact L7 _ _ _ _ tQ (0) (0) hq0 _ _ _ hW (lv_sub hl [0, 1, 2, 3, 4, 5] rfl) hf
    · have hf := o_t hf c6
      refine lv_aload_n hx hb dX3_dearest_15 rfl (lv_at hl 0 rfl) ?_
      refine lv_bipush (v := (-2)) hx hb dX3_dearest_16 (by decide) ?_
      obtain ⟨r29, M30, hc30, hf⟩ := o_b2s hf
      have hp30 : List.Perm [mW g adM kM (o_a tQ) M, oM g tQ] ([mW g adM kM (o_a tQ) M] ++ [oM g tQ]) := b_perm [0] [1] 2 rfl rfl rfl rfl
      refine b_call0 ⟨rfl, rfl⟩ (va_runV (As := [.int (-2)]) (rest := []) ⟨hx, hb, hml, hown, hts⟩ (m_X3_refuse l D g H.size adM kM (o_a tQ) M (-2) r29 M30 hc30) (cwV 1 hts (lw_V q1572 q1574 qs33 q79 q1575) rfl rfl rfl (by decide +kernel) ⟨Nat.le_of_ble_eq_true rfl, Nat.le_of_ble_eq_true rfl⟩) (b_preV (pp := 0) (q := 0) hW hp30 rfl mW_0 rfl) rfl rfl hl.1 rfl (lv_room (Nat.le_of_ble_eq_true rfl)) dX3_dearest_18 ⟨o_q2 hq0.1, o_q2 hq0.2⟩) hW hp30 (fun _ _ H locs hW => ?_)
      have hW : bW D g A s H locs [mW g adM kM (o_a tQ) M30, oM g tQ] := hW
      refine W.widen (k := o_k 45 tQ) (n := o_k 842 tQ) (o_q3 hq0.1) (o_q3 hq0.2) ?_
      cases hf
      exact b_iret hx hb hr hlk hE hW tQ rfl rfl rfl dX3_dearest_21
