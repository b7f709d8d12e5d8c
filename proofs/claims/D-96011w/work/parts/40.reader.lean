/-! THE READER: printed by gen/all.py -/
set_option maxRecDepth 100000
def o_sz (n : Nat) (c : Int32) : Bool := decide (n ≤ 70) && decide (ix (c - 0) ≤ 70)
/-- a builder that a letter joins: its room, and what the joining costs -/
def o_ap (n : Nat) (c : Int32) : Bool := decide (n ≤ 70) && decide (n + eC n (c + 1) * 36 ≤ 70) && decide (eS n (c + 1) ≤ eC n (c + 1) * (2 * n + 2)) && decide (eC n (c + 1) ≤ 1)
theorem o_ap1 {n : Nat} {c : Int32} (h : o_ap n c = true) : n ≤ 70 ∧ n + eC n (c + 1) * 36 ≤ 70 ∧ (eC n (c + 1) = 0 ∧ eS n (c + 1) = 0 ∨ eC n (c + 1) = 1 ∧ eS n (c + 1) ≤ 2 * n + 2) := by
  simp only [o_ap, Bool.and_eq_true, decide_eq_true_eq] at h
  obtain ⟨⟨⟨h1, h2⟩, h3⟩, h4⟩ := h
  refine ⟨h1, h2, ?_⟩
  rcases Nat.le_one_iff_eq_zero_or_eq_one.mp h4 with e | e
  · rw [e] at h3; exact Or.inl ⟨e, by omega⟩
  · rw [e] at h3; exact Or.inr ⟨e, by omega⟩
theorem o_sz1 {n : Nat} {c : Int32} (h : o_sz n c = true) : n ≤ 70 ∧ ix (c - 0) ≤ 70 := by simpa [o_sz] using h
theorem ens_room {n : Nat} {f : Nat → Int32} {c x : Int32} {n' : Nat} {f' : Nat → Int32} (h : f_J12_ensureCapacityInternal n f c x = some (n', f')) : (eC n x = 0 ∧ eS n x = 0 ∧ n' = n) ∨ (eC n x = 1 ∧ eS n x = 2 * n + 2 ∧ n' = 2 * n + 2) := by
  rw [f_J12_ensureCapacityInternal] at h
  obtain ⟨v, ev, h⟩ := o_ls h
  by_cases hc : x - v ≤ 0
  · have h := o_t h hc
    cases h
    subst ev
    exact Or.inl ⟨by simp only [eC, if_pos hc], by simp only [eS, if_pos hc], rfl⟩
  · have h := o_f h hc
    obtain ⟨r, -, h⟩ := o_b1s h
    obtain ⟨v5, -, h⟩ := o_ls h
    obtain ⟨hk, h⟩ := o_cs h
    obtain ⟨f6, -, h⟩ := o_b1s h
    cases h
    subst ev
    exact Or.inr ⟨by simp only [eC, if_neg hc], by simp only [eS, if_neg hc], of_decide_eq_true hk⟩
theorem app_room {n : Nat} {f : Nat → Int32} {c x : Int32} {n' : Nat} {f' : Nat → Int32} {c' : Int32} (h : f_J13_append n f c x = some (n', f', c')) : (eC n (c + 1) = 0 ∧ eS n (c + 1) = 0 ∧ n' = n) ∨ (eC n (c + 1) = 1 ∧ eS n (c + 1) = 2 * n + 2 ∧ n' = 2 * n + 2) := by
  rw [f_J13_append] at h
  obtain ⟨n1, f1, c1, h1, h⟩ := o_b3s h
  cases h
  rw [f_J12_append] at h1
  obtain ⟨v, ev, ha⟩ := o_ls h1
  obtain ⟨n2, f2, h2, hb⟩ := o_b2s ha
  have h3 := ens_room h2
  subst ev
  obtain ⟨r, -, hc⟩ := o_b1s hb
  by_cases hr : r = 0
  · have hd := o_t hc hr
    cases hd
  · have hd := o_f hc hr
    obtain ⟨v11, -, he⟩ := o_ls hd
    obtain ⟨v12, -, hg⟩ := o_ls he
    obtain ⟨-, hi⟩ := o_cs hg
    obtain ⟨f14, -, hj⟩ := o_ls hi
    cases hj
    exact h3
def q_a2 (k : Nat → Nat → Prop) : Prop := ∀ z b, k z b
theorem q_a2s {k : Nat → Nat → Prop} (h : q_a2 k) (z b : Nat) : k z b := h z b

def f_X11_isIn (R : BC) (X : BC) (x1 : Int32) (x2 : Int32) : Option Int32 :=
 (if (R.1 0 0) ≤ (R.1 0 1) then
 some 0
 else
 o_ck (inB (R.1 0 1) 250) ((if (X.1 10 (ix (R.1 0 1))) < x1 then
 some 0
 else
 (if x2 < (X.1 10 (ix (R.1 0 1))) then
 some 0
 else
 some 1))))
abbrev rm_X11_isIn : Room := { frames := 0, cells := 0, slots := 0, locals := 0 }
set_option maxHeartbeats 4000000 in
set_option maxRecDepth 100000 in
theorem m_X11_isIn (l : Launch) (D : va_G) (g : Nat → ClassId) (sz : Nat) (adR : Nat → Nat) (adX : Nat → Nat) (iX : Option Nat) (adN : Nat → Nat) (adT : Nat → Nat) (adO : Nat → Nat) (adN : Nat → Nat) (R : BC) (X : BC) (x1 : Int32) (x2 : Int32) (rO : Int32) (hf : f_X11_isIn R X x1 x2 = some rO) : bMet (S := Unit) l yX11_isIn (ws_ yX11_isIn cX11_isIn 3 (some .boolean)) rm_X11_isIn D g sz [.ref (adR 0), .int x1, .int x2] [rW g adR (adX 10) (adN 0) R, xW g adX (adO 0) (adT 0) iX X] (fun _ => True) (fun _ => some (.int rO)) (fun _ => [rW g adR (adX 10) (adN 0) R, xW g adX (adO 0) (adT 0) iX X]) := by
  refine b_met (by decide) (Nat.le_of_ble_eq_true rfl) ?_
  intro p e s m args below meth c A Q ls hx hb hml hr hlk hown hname hts hE hl hW
  revert hW; generalize s.heap = H; intro hW
  have hl : lv_has ls 3 [(0, .ref (adR 0)), (1, .int x1), (2, .int x2)] := hl
  rw [f_X11_isIn] at hf
  refine lv_aload_n hx hb dX11_isIn_0 rfl (lv_at hl 0 rfl) ?_
  refine b_get hx hb hts in_X11 hown hW 0 0 11 3 rfl rW_0 rfl (by decide) ⟨rfl, rfl, rfl⟩ (hts _ q746) rW_g3 dX11_isIn_1 ?_
  refine lv_aload_n hx hb dX11_isIn_4 rfl (lv_at hl 0 rfl) ?_
  refine b_get hx hb hts in_X11 hown hW 0 0 11 1 rfl rW_0 rfl (by decide) ⟨rfl, rfl, rfl⟩ (hts _ q743) rW_g1 dX11_isIn_5 ?_
  refine lv_icmp_ge (tgt := 41) hx hb dX11_isIn_8 (by decide) (fun c1 => ?_) (fun c1 => ?_)
  · have hf := o_t hf c1
    refine lv_iconst (v := 0) hx hb dX11_isIn_41 (by decide) ?_
    cases hf
    exact b_zret hx hb hr hlk hE hW () rfl trivial rfl (by decide) dX11_isIn_42
  · have hf := o_f hf c1
    refine lv_aload_n hx hb dX11_isIn_11 rfl (lv_at hl 0 rfl) ?_
    refine b_get hx hb hts in_X11 hown hW 0 0 11 0 rfl rW_0 rfl (by decide) ⟨rfl, rfl, rfl⟩ (hts _ q742) rW_g0 dX11_isIn_12 ?_
    refine lv_aload_n hx hb dX11_isIn_15 rfl (lv_at hl 0 rfl) ?_
    refine b_get hx hb hts in_X11 hown hW 0 0 11 3 rfl rW_0 rfl (by decide) ⟨rfl, rfl, rfl⟩ (hts _ q746) rW_g3 dX11_isIn_16 ?_
    obtain ⟨h2, hf⟩ := o_cs hf
    refine b_iald hx hb hW 1 10 rfl xW_10 h2 dX11_isIn_19 ?_
    refine lv_iload_n hx hb dX11_isIn_20 rfl (lv_at hl 1 rfl) ?_
    refine lv_icmp_lt (tgt := 41) hx hb dX11_isIn_21 (by decide) (fun c3 => ?_) (fun c3 => ?_)
    · have hf := o_t hf c3
      refine lv_iconst (v := 0) hx hb dX11_isIn_41 (by decide) ?_
      cases hf
      exact b_zret hx hb hr hlk hE hW () rfl trivial rfl (by decide) dX11_isIn_42
    · have hf := o_f hf c3
      refine lv_aload_n hx hb dX11_isIn_24 rfl (lv_at hl 0 rfl) ?_
      refine b_get hx hb hts in_X11 hown hW 0 0 11 0 rfl rW_0 rfl (by decide) ⟨rfl, rfl, rfl⟩ (hts _ q742) rW_g0 dX11_isIn_25 ?_
      refine lv_aload_n hx hb dX11_isIn_28 rfl (lv_at hl 0 rfl) ?_
      refine b_get hx hb hts in_X11 hown hW 0 0 11 3 rfl rW_0 rfl (by decide) ⟨rfl, rfl, rfl⟩ (hts _ q746) rW_g3 dX11_isIn_29 ?_
      refine b_iald hx hb hW 1 10 rfl xW_10 h2 dX11_isIn_32 ?_
      refine lv_iload_n hx hb dX11_isIn_33 rfl (lv_at hl 2 rfl) ?_
      refine lv_icmp_gt (tgt := 41) hx hb dX11_isIn_34 (by decide) (fun c4 => ?_) (fun c4 => ?_)
      · have hf := o_t hf c4
        refine lv_iconst (v := 0) hx hb dX11_isIn_41 (by decide) ?_
        cases hf
        exact b_zret hx hb hr hlk hE hW () rfl trivial rfl (by decide) dX11_isIn_42
      · have hf := o_f hf c4
        refine lv_iconst (v := 1) hx hb dX11_isIn_37 (by decide) ?_
        refine lv_goto (tgt := 42) hx hb dX11_isIn_38 (by decide) ?_
        cases hf
        exact b_zret hx hb hr hlk hE hW () rfl trivial rfl (by decide) dX11_isIn_42
abbrev rm_X11_wrong : Room := { frames := 4, cells := 1, slots := 7, locals := 93 }
set_option maxHeartbeats 4000000 in
set_option maxRecDepth 100000 in
theorem m_X11_wrong (l : Launch) (D : va_G) (g : Nat → ClassId) (sz : Nat) (adR : Nat → Nat) (tp vl : Nat) (R : BC)  : bMet (S := Nat) l yX11_wrong (ws_ yX11_wrong cX11_wrong 1 (some (.object "EverybodyHasTheBook$Fault"))) rm_X11_wrong D g sz [.ref (adR 0)] [rW g adR tp vl R] (fun _ => True) (fun u => some (.ref u)) (fun u => [rW g adR tp vl R, [(u, .inr (12, xRf (R.1 0 2)))]]) := by
  refine b_met (by decide) (Nat.le_of_ble_eq_true rfl) ?_
  intro p e s m args below meth c A Q ls hx hb hml hr hlk hown hname hts hE hl hW
  revert hW; generalize s.heap = H; intro hW
  have hl : lv_has ls 1 [(0, .ref (adR 0))] := hl
  refine b_new (ci := 12) (fs := [.null, .null, .null, .null, .null, .int 0, .int 0]) hx hb hts in_X12 tyX12 tyX12_ok hown (hts _ q972) (hts _ q973) (hts _ q108) hW rfl (by intro j hj; rcases (show j = 0 ∨ j = 1 ∨ j = 2 ∨ j = 3 ∨ j = 4 ∨ j = 5 ∨ j = 6 by omega) with rfl | rfl | rfl | rfl | rfl | rfl | rfl <;> rfl) (Nat.le_of_ble_eq_true rfl) (Nat.le_of_ble_eq_true rfl) dX11_wrong_0 (fun z1 H hW => ?_)
  refine W.cs (cells' := 1) (slots' := 7) rfl rfl ?_
  have hW : bW D g A s H _ [rW g adR tp vl R, [(z1, .inr (12, [.null, .null, .null, .null, .null, .int 0, .int 0]))]] := hW
  refine lv_dup hx hb dX11_wrong_3 rfl ?_
  refine lv_aload_n hx hb dX11_wrong_4 rfl (lv_at hl 0 rfl) ?_
  refine b_get hx hb hts in_X11 hown hW 0 0 11 4 rfl rW_0 rfl (by decide) ⟨rfl, rfl, rfl⟩ (hts _ q747) rW_g4 dX11_wrong_5 ?_
  have hp2 : List.Perm ([rW g adR tp vl R, [(z1, .inr (12, [.null, .null, .null, .null, .null, .int 0, .int 0]))]] : List va_W) ([[(z1, .inr (12, [.null, .null, .null, .null, .null, .int 0, .int 0]))]] ++ [rW g adR tp vl R]) := b_perm [1] [0] 2 rfl rfl rfl rfl
  refine b_call0 ⟨rfl, rfl⟩ (va_runI (As := [.int (R.1 0 2)]) (rest := [.ref z1]) ⟨hx, hb, hml, hown, hts⟩ (m_X12_init l D g H.size z1 (R.1 0 2)) (cwI 1 hts (lw_meth q983) rfl rfl rfl (hts _ q108) (hts _ q981) (hts _ q982) rfl (by decide +kernel) ⟨Nat.le_of_ble_eq_true rfl, Nat.le_of_ble_eq_true rfl⟩) (b_preS hW hp2) rfl rfl hl.1 rfl (lv_room (Nat.le_of_ble_eq_true rfl)) dX11_wrong_8 ⟨Nat.le_of_ble_eq_true rfl, Nat.le_of_ble_eq_true rfl⟩) hW hp2 (fun _ _ H locs hW => ?_)
  have hW : bW D g A s H locs [[(z1, .inr (12, xRf (R.1 0 2)))], rW g adR tp vl R] := hW
  refine W.widen (k := 1) (n := 7) (by omega) (by omega) ?_
  have hW : bW D g A s H _ [rW g adR tp vl R, [(z1, .inr (12, xRf (R.1 0 2)))]] := (b_perms hW (b_ord [1, 0] 2 rfl rfl rfl))
  exact b_aret hx hb hr (Or.inl ⟨_, rfl⟩) hlk hE hW z1 rfl trivial (Or.inr ⟨_, rfl⟩) rfl dX11_wrong_11
def f_X11_next_L124 (X : BC) (post : BC → Option DT → Prop) (rec18 : (Int32 × BC) → Prop) : Int32 × BC → Prop
  | (v19, R20) =>
    q_b1 (f_X11_isIn R20 X 48 57) fun (r21 : Int32) =>
     (if r21 = 0 then
     (if ((R20.1 0 1) - (R20.1 0 2)) ≤ 3 then
     q_lt (bI R20 0 (upd (R20.1 0) 3 v19)) fun (R24 : BC) =>
     post R24 (none)
     else
     q_lt (bI R20 0 (upd (R20.1 0) 3 1000)) fun (R25 : BC) =>
     post R25 (none))
     else
     q_ck (inB (R20.1 0 1) 250) (q_lt ((if (((10 * v19) + (X.1 10 (ix (R20.1 0 1)))) - 48) < (1000 : Int32) then (((10 * v19) + (X.1 10 (ix (R20.1 0 1)))) - 48) else (1000 : Int32))) fun (v27 : Int32) =>
     q_lt ((R20.1 0 1) + 1) fun (v28 : Int32) =>
     q_lt (bI R20 0 (upd (R20.1 0) 1 v28)) fun (R29 : BC) =>
     rec18 (v27, R29)))
def f_X11_next_L61 (X : BC) (post : BC → Option DT → Prop) (rec33 : (Nat × (Nat → Int32) × Int32 × BC) → Prop) : Nat × (Nat → Int32) × Int32 × BC → Prop
  | (nU34, fU35, cU36, R37) =>
    q_b1 (f_X11_isIn R37 X 97 122) fun (r38 : Int32) =>
     (if r38 = 0 then
     q_ck (o_sz nU34 cU36) (q_b2 (f_J13_toString nU34 fU35 cU36) fun (n41 : Nat) (f42 : Nat → Int32) =>
     q_a2 fun (z43 : Nat) (b44 : Nat) =>
     q_lt (bR R37 0 (va_up (R37.2.1 0) 0 (some z43))) fun (R46 : BC) =>
     post R46 (some (z43, b44, n41, f42, 0, 0)))
     else
     q_ck (inB (R37.1 0 1) 250) (q_ck (o_ap nU34 cU36) (q_b3 (f_J13_append nU34 fU35 cU36 (((X.1 10 (ix (R37.1 0 1))).toUInt32 % 65536).toInt32)) fun (n49 : Nat) (f50 : Nat → Int32) (v51 : Int32) =>
     q_lt ((R37.1 0 1) + 1) fun (v54 : Int32) =>
     q_lt (bI R37 0 (upd (R37.1 0) 1 v54)) fun (R55 : BC) =>
     rec33 (n49, f50, v51, R55))))
def f_X11_next_L0 (X : BC) (fu : Nat) (g : Nat → Nat) (post : BC → Option DT → Prop) (rec1 : BC → Prop) (R2 : BC) : Prop :=
 q_b1 (f_X11_isIn R2 X 32 32) fun (r3 : Int32) =>
 (if r3 = 0 then
 q_lt (R2.1 0 1) fun (v5 : Int32) =>
 q_lt (bI R2 0 (upd (R2.1 0) 2 v5)) fun (R6 : BC) =>
 q_lt (bR R6 0 (va_up (R6.2.1 0) 0 none)) fun (R7 : BC) =>
 q_lt (bI R7 0 (upd (R7.1 0) 3 (-1))) fun (R8 : BC) =>
 q_b1 (f_X11_isIn R8 X 97 122) fun (r9 : Int32) =>
 (if r9 = 0 then
 q_b1 (f_X11_isIn R8 X 48 57) fun (r11 : Int32) =>
 (if r11 = 0 then
 q_b1 (f_X11_isIn R8 X 59 59) fun (r13 : Int32) =>
 (if r13 = 0 then
 post R8 (none)
 else
 q_lt (bR R8 0 (va_up (R8.2.1 0) 0 (some (g (100 + 6))))) fun (R15 : BC) =>
 q_lt ((R15.1 0 1) + 1) fun (v16 : Int32) =>
 q_lt (bI R15 0 (upd (R15.1 0) 1 v16)) fun (R17 : BC) =>
 post R17 (none))
 else
 q_lp (f_X11_next_L124 X post) fu (0, R8))
 else
 q_lp (f_X11_next_L61 X post) fu (16, (fun _ => 0), 0, R8))
 else
 q_lt ((R2.1 0 1) + 1) fun (v56 : Int32) =>
 q_lt (bI R2 0 (upd (R2.1 0) 1 v56)) fun (R57 : BC) =>
 rec1 R57)
def f_X11_next (fu : Nat) (g : Nat → Nat) (R : BC) (X : BC) (post : BC → Option DT → Prop) : Prop :=
 q_lp (f_X11_next_L0 X fu g post) fu R
abbrev rm_X11_next : Room := { frames := 6, cells := 6, slots := 202, locals := 175 }
set_option maxHeartbeats 4000000 in
set_option maxRecDepth 100000 in
theorem m_X11_next (l : Launch) (D : va_G) (g : Nat → ClassId) (sz : Nat) (adR adX adN adO adT : Nat → Nat) (iX : Option Nat) (fu : Nat) (R X : BC) (post : BC → Option DT → Prop) (hf : f_X11_next fu g R X post) : bMet (S := BC × Option DT) l yX11_next (ws_ yX11_next cX11_next 2 none) rm_X11_next D g sz [.ref (adR 0)] [rW g adR (adX 10) (adN 0) R, xW g adX (adO 0) (adT 0) iX X] (fun u => post u.1 u.2) (fun _ => none) (fun u => [rW g adR (adX 10) (adN 0) u.1, xW g adX (adO 0) (adT 0) iX X, dW g u.2]) := by
  refine b_met (by decide) (Nat.le_of_ble_eq_true rfl) ?_
  intro p e s m args below meth c A Q ls hx hb hml hr hlk hown hname hts hE hl hW
  revert hW; generalize s.heap = H; intro hW
  have hl : lv_has ls 2 [(0, .ref (adR 0))] := hl
  rw [f_X11_next] at hf
  obtain ⟨stp1, est1, hf⟩ := q_ln hf
  have L1 : ∀ (n : Nat) (R2 : BC) (H : Heap) (locs : List Loc) (ls : Array Slot), bW D g A s H locs [rW g adR (adX 10) (adN 0) R2, xW g adX (adO 0) (adT 0) iX X] → lv_has ls 2 [(0, .ref (adR 0))] → q_lp stp1 n R2 → W p l e rm_X11_next s m args below meth c H locs 0 0 Q (F0 m 0 ls []) := by
    intro n1
    induction n1 with
    | zero => intro R2 H locs ls hW hl hf; exact (q_lz hf).elim
    | succ n1 ih1 =>
      intro R2 H locs ls hW hl hf
      have hf := q_lu est1 hf
      rw [f_X11_next_L0] at hf
      refine lv_aload_n hx hb dX11_next_0 rfl (lv_at hl 0 rfl) ?_
      refine lv_bipush (v := 32) hx hb dX11_next_1 (by decide) ?_
      refine lv_bipush (v := 32) hx hb dX11_next_3 (by decide) ?_
      obtain ⟨r3, hc3, hf⟩ := q_b1s hf
      have hp3 : List.Perm [rW g adR (adX 10) (adN 0) R2, xW g adX (adO 0) (adT 0) iX X] ([rW g adR (adX 10) (adN 0) R2, xW g adX (adO 0) (adT 0) iX X] ++ []) := b_perm [0, 1] [] 2 rfl rfl rfl rfl
      refine b_call0 ⟨rfl, rfl⟩ (va_runV (As := [.int 32, .int 32]) (rest := []) ⟨hx, hb, hml, hown, hts⟩ (m_X11_isIn l D g H.size adR adX iX adN adT adO adN R2 X 32 32 r3 hc3) (cwV 2 hts (lw_V q773 q775 qs8 q100 q776) rfl rfl rfl (by decide +kernel) ⟨Nat.le_of_ble_eq_true rfl, Nat.le_of_ble_eq_true rfl⟩) (b_preV (pp := 0) (q := 0) hW hp3 rfl rW_0 rfl) rfl rfl hl.1 rfl (lv_room (Nat.le_of_ble_eq_true rfl)) dX11_next_5 ⟨Nat.le_of_ble_eq_true rfl, Nat.le_of_ble_eq_true rfl⟩) hW hp3 (fun _ _ H locs hW => ?_)
      have hW : bW D g A s H locs [rW g adR (adX 10) (adN 0) R2, xW g adX (adO 0) (adT 0) iX X] := hW
      refine lv_if_eq (tgt := 24) hx hb dX11_next_8 (by decide) (fun c4 => ?_) (fun c4 => ?_)
      · have hf := q_t hf c4
        refine lv_aload_n hx hb dX11_next_24 rfl (lv_at hl 0 rfl) ?_
        refine lv_aload_n hx hb dX11_next_25 rfl (lv_at hl 0 rfl) ?_
        refine b_get hx hb hts in_X11 hown hW 0 0 11 3 rfl rW_0 rfl (by decide) ⟨rfl, rfl, rfl⟩ (hts _ q746) rW_g3 dX11_next_26 ?_
        obtain ⟨v5, ev5, hf⟩ := q_ls hf
        refine b_topi ev5 ?_
        obtain ⟨R6, eR6, hf⟩ := q_ls hf
        refine b_put hx hb hts in_X11 tyX11 tyX11_ok nmX11 hown hW 0 0 11 4 rfl rW_0 (rW_p4 eR6) rfl rfl (by decide) ⟨rfl, rfl, rfl⟩ (hts _ q747) rfl (ty := .int) rfl rfl rfl (by rw [rW_l]; decide) dX11_next_29 (fun H locs hW => ?_)
        have hW : bW D g A s H locs [rW g adR (adX 10) (adN 0) R6, xW g adX (adO 0) (adT 0) iX X] := hW
        refine lv_aload_n hx hb dX11_next_32 rfl (lv_at hl 0 rfl) ?_
        refine lv_null hx hb dX11_next_33 ?_
        obtain ⟨R7, eR7, hf⟩ := q_ls hf
        refine b_put (v := .null) hx hb hts in_X11 tyX11 tyX11_ok nmX11 hown hW 0 0 11 5 rfl rW_0 (rW_p5 (x := none) eR7) rfl rfl (by decide) ⟨rfl, rfl, rfl⟩ (hts _ q748) rfl (ty := .object "java/lang/String") rfl rfl rfl (by rw [rW_l]; decide) dX11_next_34 (fun H locs hW => ?_)
        have hW : bW D g A s H locs [rW g adR (adX 10) (adN 0) R7, xW g adX (adO 0) (adT 0) iX X] := hW
        refine lv_aload_n hx hb dX11_next_37 rfl (lv_at hl 0 rfl) ?_
        refine lv_iconst (v := (-1)) hx hb dX11_next_38 (by decide) ?_
        obtain ⟨R8, eR8, hf⟩ := q_ls hf
        refine b_put hx hb hts in_X11 tyX11 tyX11_ok nmX11 hown hW 0 0 11 6 rfl rW_0 (rW_p6 eR8) rfl rfl (by decide) ⟨rfl, rfl, rfl⟩ (hts _ q749) rfl (ty := .int) rfl rfl rfl (by rw [rW_l]; decide) dX11_next_39 (fun H locs hW => ?_)
        have hW : bW D g A s H locs [rW g adR (adX 10) (adN 0) R8, xW g adX (adO 0) (adT 0) iX X] := hW
        refine lv_aload_n hx hb dX11_next_42 rfl (lv_at hl 0 rfl) ?_
        refine lv_bipush (v := 97) hx hb dX11_next_43 (by decide) ?_
        refine lv_bipush (v := 122) hx hb dX11_next_45 (by decide) ?_
        obtain ⟨r9, hc9, hf⟩ := q_b1s hf
        have hp9 : List.Perm [rW g adR (adX 10) (adN 0) R8, xW g adX (adO 0) (adT 0) iX X] ([rW g adR (adX 10) (adN 0) R8, xW g adX (adO 0) (adT 0) iX X] ++ []) := b_perm [0, 1] [] 2 rfl rfl rfl rfl
        refine b_call0 ⟨rfl, rfl⟩ (va_runV (As := [.int 97, .int 122]) (rest := []) ⟨hx, hb, hml, hown, hts⟩ (m_X11_isIn l D g H.size adR adX iX adN adT adO adN R8 X 97 122 r9 hc9) (cwV 2 hts (lw_V q773 q775 qs8 q100 q776) rfl rfl rfl (by decide +kernel) ⟨Nat.le_of_ble_eq_true rfl, Nat.le_of_ble_eq_true rfl⟩) (b_preV (pp := 0) (q := 0) hW hp9 rfl rW_0 rfl) rfl rfl hl.1 rfl (lv_room (Nat.le_of_ble_eq_true rfl)) dX11_next_47 ⟨Nat.le_of_ble_eq_true rfl, Nat.le_of_ble_eq_true rfl⟩) hW hp9 (fun _ _ H locs hW => ?_)
        have hW : bW D g A s H locs [rW g adR (adX 10) (adN 0) R8, xW g adX (adO 0) (adT 0) iX X] := hW
        refine lv_if_eq (tgt := 111) hx hb dX11_next_50 (by decide) (fun c10 => ?_) (fun c10 => ?_)
        · have hf := q_t hf c10
          refine lv_aload_n hx hb dX11_next_111 rfl (lv_at hl 0 rfl) ?_
          refine lv_bipush (v := 48) hx hb dX11_next_112 (by decide) ?_
          refine lv_bipush (v := 57) hx hb dX11_next_114 (by decide) ?_
          obtain ⟨r11, hc11, hf⟩ := q_b1s hf
          have hp11 : List.Perm [rW g adR (adX 10) (adN 0) R8, xW g adX (adO 0) (adT 0) iX X] ([rW g adR (adX 10) (adN 0) R8, xW g adX (adO 0) (adT 0) iX X] ++ []) := b_perm [0, 1] [] 2 rfl rfl rfl rfl
          refine b_call0 ⟨rfl, rfl⟩ (va_runV (As := [.int 48, .int 57]) (rest := []) ⟨hx, hb, hml, hown, hts⟩ (m_X11_isIn l D g H.size adR adX iX adN adT adO adN R8 X 48 57 r11 hc11) (cwV 2 hts (lw_V q773 q775 qs8 q100 q776) rfl rfl rfl (by decide +kernel) ⟨Nat.le_of_ble_eq_true rfl, Nat.le_of_ble_eq_true rfl⟩) (b_preV (pp := 0) (q := 0) hW hp11 rfl rW_0 rfl) rfl rfl hl.1 rfl (lv_room (Nat.le_of_ble_eq_true rfl)) dX11_next_116 ⟨Nat.le_of_ble_eq_true rfl, Nat.le_of_ble_eq_true rfl⟩) hW hp11 (fun _ _ H locs hW => ?_)
          have hW : bW D g A s H locs [rW g adR (adX 10) (adN 0) R8, xW g adX (adO 0) (adT 0) iX X] := hW
          refine lv_if_eq (tgt := 199) hx hb dX11_next_119 (by decide) (fun c12 => ?_) (fun c12 => ?_)
          · have hf := q_t hf c12
            refine lv_aload_n hx hb dX11_next_199 rfl (lv_at hl 0 rfl) ?_
            refine lv_bipush (v := 59) hx hb dX11_next_200 (by decide) ?_
            refine lv_bipush (v := 59) hx hb dX11_next_202 (by decide) ?_
            obtain ⟨r13, hc13, hf⟩ := q_b1s hf
            have hp13 : List.Perm [rW g adR (adX 10) (adN 0) R8, xW g adX (adO 0) (adT 0) iX X] ([rW g adR (adX 10) (adN 0) R8, xW g adX (adO 0) (adT 0) iX X] ++ []) := b_perm [0, 1] [] 2 rfl rfl rfl rfl
            refine b_call0 ⟨rfl, rfl⟩ (va_runV (As := [.int 59, .int 59]) (rest := []) ⟨hx, hb, hml, hown, hts⟩ (m_X11_isIn l D g H.size adR adX iX adN adT adO adN R8 X 59 59 r13 hc13) (cwV 2 hts (lw_V q773 q775 qs8 q100 q776) rfl rfl rfl (by decide +kernel) ⟨Nat.le_of_ble_eq_true rfl, Nat.le_of_ble_eq_true rfl⟩) (b_preV (pp := 0) (q := 0) hW hp13 rfl rW_0 rfl) rfl rfl hl.1 rfl (lv_room (Nat.le_of_ble_eq_true rfl)) dX11_next_204 ⟨Nat.le_of_ble_eq_true rfl, Nat.le_of_ble_eq_true rfl⟩) hW hp13 (fun _ _ H locs hW => ?_)
            have hW : bW D g A s H locs [rW g adR (adX 10) (adN 0) R8, xW g adX (adO 0) (adT 0) iX X] := hW
            refine lv_if_eq (tgt := 226) hx hb dX11_next_207 (by decide) (fun c14 => ?_) (fun c14 => ?_)
            · have hf := q_t hf c14
              have hW : bW D g A s H _ [rW g adR (adX 10) (adN 0) R8, xW g adX (adO 0) (adT 0) iX X, dW g (none)] := hW
              refine W.widen (k := 6) (n := 202) (by decide) (by decide) ?_
              exact b_vret hx hb hr hlk hE hW (R8, none) rfl hf rfl dX11_next_226
            · have hf := q_f hf c14
              refine lv_aload_n hx hb dX11_next_210 rfl (lv_at hl 0 rfl) ?_
              refine va_ldcS hx hb hown (b_kld hW (own := "EverybodyHasTheBook$Reader") (idx := 57) (tx := ";") (i := 6) 0 rfl) dX11_next_211 ?_
              obtain ⟨R15, eR15, hf⟩ := q_ls hf
              refine b_put (v := .ref (g (100 + 6))) hx hb hts in_X11 tyX11 tyX11_ok nmX11 hown hW 0 0 11 5 rfl rW_0 (rW_p5 (x := some (g (100 + 6))) eR15) rfl rfl (by decide) ⟨rfl, rfl, rfl⟩ (hts _ q748) rfl (ty := .object "java/lang/String") rfl rfl rfl (by rw [rW_l]; decide) dX11_next_213 (fun H locs hW => ?_)
              have hW : bW D g A s H locs [rW g adR (adX 10) (adN 0) R15, xW g adX (adO 0) (adT 0) iX X] := hW
              refine lv_aload_n hx hb dX11_next_216 rfl (lv_at hl 0 rfl) ?_
              refine lv_dup hx hb dX11_next_217 rfl ?_
              refine b_get hx hb hts in_X11 hown hW 0 0 11 3 rfl rW_0 rfl (by decide) ⟨rfl, rfl, rfl⟩ (hts _ q746) rW_g3 dX11_next_218 ?_
              refine lv_iconst (v := 1) hx hb dX11_next_221 (by decide) ?_
              refine lv_iadd hx hb dX11_next_222 ?_
              obtain ⟨v16, ev16, hf⟩ := q_ls hf
              refine b_topi ev16 ?_
              obtain ⟨R17, eR17, hf⟩ := q_ls hf
              refine b_put hx hb hts in_X11 tyX11 tyX11_ok nmX11 hown hW 0 0 11 3 rfl rW_0 (rW_p3 eR17) rfl rfl (by decide) ⟨rfl, rfl, rfl⟩ (hts _ q746) rfl (ty := .int) rfl rfl rfl (by rw [rW_l]; decide) dX11_next_223 (fun H locs hW => ?_)
              have hW : bW D g A s H locs [rW g adR (adX 10) (adN 0) R17, xW g adX (adO 0) (adT 0) iX X] := hW
              have hW : bW D g A s H _ [rW g adR (adX 10) (adN 0) R17, xW g adX (adO 0) (adT 0) iX X, dW g (none)] := hW
              refine W.widen (k := 6) (n := 202) (by decide) (by decide) ?_
              exact b_vret hx hb hr hlk hE hW (R17, none) rfl hf rfl dX11_next_226
          · have hf := q_f hf c12
            refine lv_iconst (v := 0) hx hb dX11_next_122 (by decide) ?_
            refine lv_istore_n (lv' := [(1, .int 0), (0, .ref (adR 0))]) hx hb dX11_next_123 rfl hl (by decide) rfl (fun ls hl => ?_)
            obtain ⟨stp18, est18, hf⟩ := q_ln hf
            have L18 : ∀ (n : Nat) (v19 : Int32) (R20 : BC) (H : Heap) (locs : List Loc) (ls : Array Slot), bW D g A s H locs [rW g adR (adX 10) (adN 0) R20, xW g adX (adO 0) (adT 0) iX X] → lv_has ls 2 [(1, .int v19), (0, .ref (adR 0))] → q_lp stp18 n (v19, R20) → W p l e rm_X11_next s m args below meth c H locs 0 0 Q (F0 m 124 ls []) := by
              intro n18
              induction n18 with
              | zero => intro v19 R20 H locs ls hW hl hf; exact (q_lz hf).elim
              | succ n18 ih18 =>
                intro v19 R20 H locs ls hW hl hf
                have hf := q_lu est18 hf
                rw [f_X11_next_L124] at hf
                refine lv_aload_n hx hb dX11_next_124 rfl (lv_at hl 1 rfl) ?_
                refine lv_bipush (v := 48) hx hb dX11_next_125 (by decide) ?_
                refine lv_bipush (v := 57) hx hb dX11_next_127 (by decide) ?_
                obtain ⟨r21, hc21, hf⟩ := q_b1s hf
                have hp21 : List.Perm [rW g adR (adX 10) (adN 0) R20, xW g adX (adO 0) (adT 0) iX X] ([rW g adR (adX 10) (adN 0) R20, xW g adX (adO 0) (adT 0) iX X] ++ []) := b_perm [0, 1] [] 2 rfl rfl rfl rfl
                refine b_call0 ⟨rfl, rfl⟩ (va_runV (As := [.int 48, .int 57]) (rest := []) ⟨hx, hb, hml, hown, hts⟩ (m_X11_isIn l D g H.size adR adX iX adN adT adO adN R20 X 48 57 r21 hc21) (cwV 2 hts (lw_V q773 q775 qs8 q100 q776) rfl rfl rfl (by decide +kernel) ⟨Nat.le_of_ble_eq_true rfl, Nat.le_of_ble_eq_true rfl⟩) (b_preV (pp := 0) (q := 0) hW hp21 rfl rW_0 rfl) rfl rfl hl.1 rfl (lv_room (Nat.le_of_ble_eq_true rfl)) dX11_next_129 ⟨Nat.le_of_ble_eq_true rfl, Nat.le_of_ble_eq_true rfl⟩) hW hp21 (fun _ _ H locs hW => ?_)
                have hW : bW D g A s H locs [rW g adR (adX 10) (adN 0) R20, xW g adX (adO 0) (adT 0) iX X] := hW
                refine lv_if_eq (tgt := 172) hx hb dX11_next_132 (by decide) (fun c22 => ?_) (fun c22 => ?_)
                · have hf := q_t hf c22
                  refine lv_aload_n hx hb dX11_next_172 rfl (lv_at hl 1 rfl) ?_
                  refine lv_aload_n hx hb dX11_next_173 rfl (lv_at hl 1 rfl) ?_
                  refine b_get hx hb hts in_X11 hown hW 0 0 11 3 rfl rW_0 rfl (by decide) ⟨rfl, rfl, rfl⟩ (hts _ q746) rW_g3 dX11_next_174 ?_
                  refine lv_aload_n hx hb dX11_next_177 rfl (lv_at hl 1 rfl) ?_
                  refine b_get hx hb hts in_X11 hown hW 0 0 11 4 rfl rW_0 rfl (by decide) ⟨rfl, rfl, rfl⟩ (hts _ q747) rW_g4 dX11_next_178 ?_
                  refine lv_isub hx hb dX11_next_181 ?_
                  refine lv_iconst (v := 3) hx hb dX11_next_182 (by decide) ?_
                  refine lv_icmp_le (tgt := 192) hx hb dX11_next_183 (by decide) (fun c23 => ?_) (fun c23 => ?_)
                  · have hf := q_t hf c23
                    refine lv_iload_n hx hb dX11_next_192 rfl (lv_at hl 0 rfl) ?_
                    obtain ⟨R24, eR24, hf⟩ := q_ls hf
                    refine b_put hx hb hts in_X11 tyX11 tyX11_ok nmX11 hown hW 0 0 11 6 rfl rW_0 (rW_p6 eR24) rfl rfl (by decide) ⟨rfl, rfl, rfl⟩ (hts _ q749) rfl (ty := .int) rfl rfl rfl (by rw [rW_l]; decide) dX11_next_193 (fun H locs hW => ?_)
                    have hW : bW D g A s H locs [rW g adR (adX 10) (adN 0) R24, xW g adX (adO 0) (adT 0) iX X] := hW
                    refine lv_goto (tgt := 226) hx hb dX11_next_196 (by decide) ?_
                    have hW : bW D g A s H _ [rW g adR (adX 10) (adN 0) R24, xW g adX (adO 0) (adT 0) iX X, dW g (none)] := hW
                    refine W.widen (k := 6) (n := 202) (by decide) (by decide) ?_
                    exact b_vret hx hb hr hlk hE hW (R24, none) rfl hf rfl dX11_next_226
                  · have hf := q_f hf c23
                    refine lv_sipush (v := 1000) hx hb dX11_next_186 (by decide) ?_
                    refine lv_goto (tgt := 193) hx hb dX11_next_189 (by decide) ?_
                    obtain ⟨R25, eR25, hf⟩ := q_ls hf
                    refine b_put hx hb hts in_X11 tyX11 tyX11_ok nmX11 hown hW 0 0 11 6 rfl rW_0 (rW_p6 eR25) rfl rfl (by decide) ⟨rfl, rfl, rfl⟩ (hts _ q749) rfl (ty := .int) rfl rfl rfl (by rw [rW_l]; decide) dX11_next_193 (fun H locs hW => ?_)
                    have hW : bW D g A s H locs [rW g adR (adX 10) (adN 0) R25, xW g adX (adO 0) (adT 0) iX X] := hW
                    refine lv_goto (tgt := 226) hx hb dX11_next_196 (by decide) ?_
                    have hW : bW D g A s H _ [rW g adR (adX 10) (adN 0) R25, xW g adX (adO 0) (adT 0) iX X, dW g (none)] := hW
                    refine W.widen (k := 6) (n := 202) (by decide) (by decide) ?_
                    exact b_vret hx hb hr hlk hE hW (R25, none) rfl hf rfl dX11_next_226
                · have hf := q_f hf c22
                  refine lv_sipush (v := 1000) hx hb dX11_next_135 (by decide) ?_
                  refine lv_bipush (v := 10) hx hb dX11_next_138 (by decide) ?_
                  refine lv_iload_n hx hb dX11_next_140 rfl (lv_at hl 0 rfl) ?_
                  refine lv_imul hx hb dX11_next_141 ?_
                  refine lv_aload_n hx hb dX11_next_142 rfl (lv_at hl 1 rfl) ?_
                  refine b_get hx hb hts in_X11 hown hW 0 0 11 0 rfl rW_0 rfl (by decide) ⟨rfl, rfl, rfl⟩ (hts _ q742) rW_g0 dX11_next_143 ?_
                  refine lv_aload_n hx hb dX11_next_146 rfl (lv_at hl 1 rfl) ?_
                  refine b_get hx hb hts in_X11 hown hW 0 0 11 3 rfl rW_0 rfl (by decide) ⟨rfl, rfl, rfl⟩ (hts _ q746) rW_g3 dX11_next_147 ?_
                  obtain ⟨h26, hf⟩ := q_cs hf
                  refine b_iald hx hb hW 1 10 rfl xW_10 h26 dX11_next_150 ?_
                  refine lv_iadd hx hb dX11_next_151 ?_
                  refine lv_bipush (v := 48) hx hb dX11_next_152 (by decide) ?_
                  refine lv_isub hx hb dX11_next_154 ?_
                  refine va_mmin hx hb (by rw [hml]; exact hl.1.symm) hown (hts _ q962) (hts _ q848) (hts _ q92) (hts _ q849) (Nat.le_of_ble_eq_true rfl) (Nat.le_of_ble_eq_true rfl) (Nat.le_of_ble_eq_true rfl) (Nat.le_of_ble_eq_true rfl) dX11_next_155 ?_
                  obtain ⟨v27, ev27, hf⟩ := q_ls hf
                  refine b_topi ev27 ?_
                  refine lv_istore_n (lv' := [(1, .int v27), (0, .ref (adR 0))]) hx hb dX11_next_158 rfl hl (by decide) rfl (fun ls hl => ?_)
                  refine lv_aload_n hx hb dX11_next_159 rfl (lv_at hl 1 rfl) ?_
                  refine lv_dup hx hb dX11_next_160 rfl ?_
                  refine b_get hx hb hts in_X11 hown hW 0 0 11 3 rfl rW_0 rfl (by decide) ⟨rfl, rfl, rfl⟩ (hts _ q746) rW_g3 dX11_next_161 ?_
                  refine lv_iconst (v := 1) hx hb dX11_next_164 (by decide) ?_
                  refine lv_iadd hx hb dX11_next_165 ?_
                  obtain ⟨v28, ev28, hf⟩ := q_ls hf
                  refine b_topi ev28 ?_
                  obtain ⟨R29, eR29, hf⟩ := q_ls hf
                  refine b_put hx hb hts in_X11 tyX11 tyX11_ok nmX11 hown hW 0 0 11 3 rfl rW_0 (rW_p3 eR29) rfl rfl (by decide) ⟨rfl, rfl, rfl⟩ (hts _ q746) rfl (ty := .int) rfl rfl rfl (by rw [rW_l]; decide) dX11_next_166 (fun H locs hW => ?_)
                  have hW : bW D g A s H locs [rW g adR (adX 10) (adN 0) R29, xW g adX (adO 0) (adT 0) iX X] := hW
                  refine lv_goto (tgt := 124) hx hb dX11_next_169 (by decide) ?_
                  exact ih18 _ _ _ _ _ hW (lv_sub hl [0, 1] rfl) hf
            exact L18 _ _ _ _ _ _ hW (lv_sub hl [0, 1] rfl) hf
        · have hf := q_f hf c10
          refine b_new (ci := 15) (fs := [.null, .int 0, .int 0, .int 0]) hx hb hts in_J13 tyJ13 tyJ13_ok hown (hts _ q777) (hts _ q778) (hts _ q102) hW rfl (by intro j hj; rcases (show j = 0 ∨ j = 1 ∨ j = 2 ∨ j = 3 by omega) with rfl | rfl | rfl | rfl <;> rfl) (Nat.le_of_ble_eq_true rfl) (Nat.le_of_ble_eq_true rfl) dX11_next_53 (fun q30 H hW => ?_)
          refine W.cs (cells' := 1) (slots' := 4) rfl rfl ?_
          have hW : bW D g A s H _ [rW g adR (adX 10) (adN 0) R8, xW g adX (adO 0) (adT 0) iX X, [(q30, .inr (15, [.null, .int 0, .int 0, .int 0]))]] := hW
          refine lv_dup hx hb dX11_next_56 rfl ?_
          have hp32 : List.Perm ([rW g adR (adX 10) (adN 0) R8, xW g adX (adO 0) (adT 0) iX X, [(q30, .inr (15, [.null, .int 0, .int 0, .int 0]))]] : List va_W) ([[(q30, .inr (15, [.null, .int 0, .int 0, .int 0]))]] ++ [rW g adR (adX 10) (adN 0) R8, xW g adX (adO 0) (adT 0) iX X]) := b_perm [2] [0, 1] 3 rfl rfl rfl rfl
          refine b_call (va_runI (As := []) (rest := [.ref q30]) ⟨hx, hb, hml, hown, hts⟩ (m_J13_init l D g H.size q30) (cwI 0 hts (lw_meth q781) rfl rfl rfl (hts _ q102) (hts _ q779) (hts _ q780) rfl (by decide +kernel) ⟨Nat.le_of_ble_eq_true rfl, Nat.le_of_ble_eq_true rfl⟩) (b_preS hW hp32) rfl rfl hl.1 rfl (by exact lv_room (Nat.le_of_ble_eq_true rfl)) dX11_next_57 ⟨Nat.le_of_ble_eq_true rfl, Nat.le_of_ble_eq_true rfl⟩) hW hp32 (fun b31 _ H locs hW => ?_)
          refine W.cs (cells' := 2) (slots' := 20) rfl rfl ?_
          have hW : bW D g A s H locs [uE g q30 b31 16 (fun _ => 0) 0, rW g adR (adX 10) (adN 0) R8, xW g adX (adO 0) (adT 0) iX X] := hW
          refine lv_astore_n (lv' := [(1, .ref q30), (0, .ref (adR 0))]) hx hb dX11_next_60 rfl hl (by decide) rfl (fun ls hl => ?_)
          obtain ⟨stp33, est33, hf⟩ := q_ln hf
          have L33 : ∀ (n : Nat) (nU34 : Nat) (fU35 : Nat → Int32) (cU36 : Int32) (R37 : BC) (bU33 : Nat) (cn33 sn33 : Nat) (hq33 : 16 ≤ nU34 ∧ cn33 ≤ 2 + nU34 / 34 ∧ sn33 + 12 ≤ 2 * nU34 ∧ nU34 ≤ 70) (H : Heap) (locs : List Loc) (ls : Array Slot), bW D g A s H locs [uE g q30 bU33 nU34 fU35 cU36, rW g adR (adX 10) (adN 0) R37, xW g adX (adO 0) (adT 0) iX X] → lv_has ls 2 [(1, .ref q30), (0, .ref (adR 0))] → q_lp stp33 n (nU34, fU35, cU36, R37) → W p l e rm_X11_next s m args below meth c H locs cn33 sn33 Q (F0 m 61 ls []) := by
            intro n33
            induction n33 with
            | zero => intro nU34 fU35 cU36 R37 bU33 cn33 sn33 hq33 H locs ls hW hl hf; exact (q_lz hf).elim
            | succ n33 ih33 =>
              intro nU34 fU35 cU36 R37 bU33 cn33 sn33 hq33 H locs ls hW hl hf
              have hf := q_lu est33 hf
              rw [f_X11_next_L61] at hf
              refine lv_aload_n hx hb dX11_next_61 rfl (lv_at hl 1 rfl) ?_
              refine lv_bipush (v := 97) hx hb dX11_next_62 (by decide) ?_
              refine lv_bipush (v := 122) hx hb dX11_next_64 (by decide) ?_
              obtain ⟨r38, hc38, hf⟩ := q_b1s hf
              have hp38 : List.Perm [uE g q30 bU33 nU34 fU35 cU36, rW g adR (adX 10) (adN 0) R37, xW g adX (adO 0) (adT 0) iX X] ([rW g adR (adX 10) (adN 0) R37, xW g adX (adO 0) (adT 0) iX X] ++ [uE g q30 bU33 nU34 fU35 cU36]) := b_perm [1, 2] [0] 3 rfl rfl rfl rfl
              refine b_call0 ⟨rfl, rfl⟩ (va_runV (As := [.int 97, .int 122]) (rest := []) ⟨hx, hb, hml, hown, hts⟩ (m_X11_isIn l D g H.size adR adX iX adN adT adO adN R37 X 97 122 r38 hc38) (cwV 2 hts (lw_V q773 q775 qs8 q100 q776) rfl rfl rfl (by decide +kernel) ⟨Nat.le_of_ble_eq_true rfl, Nat.le_of_ble_eq_true rfl⟩) (b_preV (pp := 1) (q := 0) hW hp38 rfl rW_0 rfl) rfl rfl hl.1 rfl (lv_room (Nat.le_of_ble_eq_true rfl)) dX11_next_66 ⟨(show cn33 + 0 ≤ 6 from by (have := hq33; omega)), (show sn33 + 0 ≤ 202 from by (have := hq33; omega))⟩) hW hp38 (fun _ _ H locs hW => ?_)
              have hW : bW D g A s H locs [rW g adR (adX 10) (adN 0) R37, xW g adX (adO 0) (adT 0) iX X, uE g q30 bU33 nU34 fU35 cU36] := hW
              refine lv_if_eq (tgt := 100) hx hb dX11_next_69 (by decide) (fun c39 => ?_) (fun c39 => ?_)
              · have hf := q_t hf c39
                refine lv_aload_n hx hb dX11_next_100 rfl (lv_at hl 1 rfl) ?_
                refine lv_aload_n hx hb dX11_next_101 rfl (lv_at hl 0 rfl) ?_
                obtain ⟨hk40, hf⟩ := q_cs hf; have hk40 := o_sz1 hk40
                obtain ⟨n41, f42, hc45, hf⟩ := q_b2s hf
                have hp45 : List.Perm ([rW g adR (adX 10) (adN 0) R37, xW g adX (adO 0) (adT 0) iX X, uE g q30 bU33 nU34 fU35 cU36] : List va_W) ([uE g q30 bU33 nU34 fU35 cU36] ++ [rW g adR (adX 10) (adN 0) R37, xW g adX (adO 0) (adT 0) iX X]) := b_perm [2] [0, 1] 3 rfl rfl rfl rfl
                refine b_call (va_runV (As := []) (rest := [.ref (adR 0)]) ⟨hx, hb, hml, hown, hts⟩ (m_J13_toString l D g H.size q30 bU33 nU34 fU35 cU36 n41 f42 hc45) (cwV 0 hts (lw_V q904 q905 q906 q102 q907) rfl rfl rfl (by decide +kernel) ⟨Nat.le_of_ble_eq_true rfl, Nat.le_of_ble_eq_true rfl⟩) (b_preV (pp := 2) (q := 0) hW hp45 rfl rfl rfl) rfl rfl hl.1 rfl (by exact lv_room (Nat.le_of_ble_eq_true rfl)) dX11_next_102 ⟨(show cn33 + 2 ≤ 6 from by (have := hq33; have := hk40; omega)), (show sn33 + (4 + max nU34 (ix (cU36 - 0))) ≤ 202 from by (have := hq33; have := hk40; omega))⟩) hW hp45 (fun ⟨z43, b44⟩ _ H locs hW => ?_)
                refine W.cs (cells' := (cn33 + 2)) (slots' := (sn33 + (4 + max nU34 (ix (cU36 - 0))))) rfl rfl ?_
                have hW : bW D g A s H locs [dE g (z43, b44, n41, f42, 0, 0), uE g q30 bU33 nU34 fU35 cU36, rW g adR (adX 10) (adN 0) R37, xW g adX (adO 0) (adT 0) iX X] := hW
                have hf := q_a2s hf z43 b44
                obtain ⟨R46, eR46, hf⟩ := q_ls hf
                refine b_put (v := .ref z43) hx hb hts in_X11 tyX11 tyX11_ok nmX11 hown hW 2 0 11 5 rfl rW_0 (rW_p5 (x := some z43) eR46) rfl rfl (by decide) ⟨rfl, rfl, rfl⟩ (hts _ q748) rfl (ty := .object "java/lang/String") rfl rfl rfl (by rw [rW_l]; decide) dX11_next_105 (fun H locs hW => ?_)
                have hW : bW D g A s H locs [dE g (z43, b44, n41, f42, 0, 0), uE g q30 bU33 nU34 fU35 cU36, rW g adR (adX 10) (adN 0) R46, xW g adX (adO 0) (adT 0) iX X] := hW
                refine lv_goto (tgt := 226) hx hb dX11_next_108 (by decide) ?_
                have hW := (b_sub (Bs' := [rW g adR (adX 10) (adN 0) R46, xW g adX (adO 0) (adT 0) iX X, dE g (z43, b44, n41, f42, 0, 0)]) (wr := [uE g q30 bU33 nU34 fU35 cU36]) hW (b_ord [2, 3, 0, 1] 4 rfl rfl rfl))
                have hW : bW D g A s H _ [rW g adR (adX 10) (adN 0) R46, xW g adX (adO 0) (adT 0) iX X, dW g (some (z43, b44, n41, f42, 0, 0))] := hW
                refine W.widen (k := 6) (n := 202) (by (have := hq33; have := hk40; omega)) (by (have := hq33; have := hk40; omega)) ?_
                exact b_vret hx hb hr hlk hE hW (R46, some (z43, b44, n41, f42, 0, 0)) rfl hf rfl dX11_next_226
              · have hf := q_f hf c39
                refine lv_aload_n hx hb dX11_next_72 rfl (lv_at hl 0 rfl) ?_
                refine lv_aload_n hx hb dX11_next_73 rfl (lv_at hl 1 rfl) ?_
                refine b_get hx hb hts in_X11 hown hW 0 0 11 0 rfl rW_0 rfl (by decide) ⟨rfl, rfl, rfl⟩ (hts _ q742) rW_g0 dX11_next_74 ?_
                refine lv_aload_n hx hb dX11_next_77 rfl (lv_at hl 1 rfl) ?_
                refine b_get hx hb hts in_X11 hown hW 0 0 11 3 rfl rW_0 rfl (by decide) ⟨rfl, rfl, rfl⟩ (hts _ q746) rW_g3 dX11_next_78 ?_
                obtain ⟨h47, hf⟩ := q_cs hf
                refine b_iald hx hb hW 1 10 rfl xW_10 h47 dX11_next_81 ?_
                refine lv_i2c hx hb dX11_next_82 rfl ?_
                obtain ⟨hk48, hf⟩ := q_cs hf; have hk48 := o_ap1 hk48
                obtain ⟨n49, f50, v51, hc53, hf⟩ := q_b3s hf
                have hp53 : List.Perm ([rW g adR (adX 10) (adN 0) R37, xW g adX (adO 0) (adT 0) iX X, uE g q30 bU33 nU34 fU35 cU36] : List va_W) ([uE g q30 bU33 nU34 fU35 cU36] ++ [rW g adR (adX 10) (adN 0) R37, xW g adX (adO 0) (adT 0) iX X]) := b_perm [2] [0, 1] 3 rfl rfl rfl rfl
                refine b_call (va_runV (As := [.int (((X.1 10 (ix (R37.1 0 1))).toUInt32 % 65536).toInt32)]) (rest := []) ⟨hx, hb, hml, hown, hts⟩ (m_J13_append l D g H.size q30 bU33 nU34 fU35 cU36 (((X.1 10 (ix (R37.1 0 1))).toUInt32 % 65536).toInt32) n49 f50 v51 hc53) (cwV 1 hts (lw_V q813 q814 q815 q102 q816) rfl rfl rfl (by decide +kernel) ⟨Nat.le_of_ble_eq_true rfl, Nat.le_of_ble_eq_true rfl⟩) (b_preV (pp := 2) (q := 0) hW hp53 rfl rfl rfl) rfl rfl hl.1 rfl (by exact lv_room (Nat.le_of_ble_eq_true rfl)) dX11_next_83 ⟨(show cn33 + (eC nU34 (cU36 + 1)) ≤ 6 from by (have := hq33; have := hk48; omega)), (show sn33 + (eS nU34 (cU36 + 1)) ≤ 202 from by (have := hq33; have := hk48; omega))⟩) hW hp53 (fun b52 _ H locs hW => ?_)
                refine W.cs (cells' := (cn33 + (eC nU34 (cU36 + 1)))) (slots' := (sn33 + (eS nU34 (cU36 + 1)))) rfl rfl ?_
                have hW : bW D g A s H locs [uE g q30 b52 n49 f50 v51, rW g adR (adX 10) (adN 0) R37, xW g adX (adO 0) (adT 0) iX X] := hW
                refine lv_pop hx hb dX11_next_86 rfl ?_
                refine lv_aload_n hx hb dX11_next_87 rfl (lv_at hl 1 rfl) ?_
                refine lv_dup hx hb dX11_next_88 rfl ?_
                refine b_get hx hb hts in_X11 hown hW 1 0 11 3 rfl rW_0 rfl (by decide) ⟨rfl, rfl, rfl⟩ (hts _ q746) rW_g3 dX11_next_89 ?_
                refine lv_iconst (v := 1) hx hb dX11_next_92 (by decide) ?_
                refine lv_iadd hx hb dX11_next_93 ?_
                obtain ⟨v54, ev54, hf⟩ := q_ls hf
                refine b_topi ev54 ?_
                obtain ⟨R55, eR55, hf⟩ := q_ls hf
                refine b_put hx hb hts in_X11 tyX11 tyX11_ok nmX11 hown hW 1 0 11 3 rfl rW_0 (rW_p3 eR55) rfl rfl (by decide) ⟨rfl, rfl, rfl⟩ (hts _ q746) rfl (ty := .int) rfl rfl rfl (by rw [rW_l]; decide) dX11_next_94 (fun H locs hW => ?_)
                have hW : bW D g A s H locs [uE g q30 b52 n49 f50 v51, rW g adR (adX 10) (adN 0) R55, xW g adX (adO 0) (adT 0) iX X] := hW
                refine lv_goto (tgt := 61) hx hb dX11_next_97 (by decide) ?_
                exact ih33 n49 f50 v51 _ b52 ((cn33 + (eC nU34 (cU36 + 1)))) ((sn33 + (eS nU34 (cU36 + 1)))) (by have := hq33; have := app_room hc53; have := hk48; omega) _ _ _ hW (lv_sub hl [0, 1] rfl) hf
          exact L33 _ 16 (fun _ => 0) 0 _ b31 (2) (20) (⟨by decide, by decide, by decide, by decide⟩) _ _ _ hW (lv_sub hl [0, 1] rfl) hf
      · have hf := q_f hf c4
        refine lv_aload_n hx hb dX11_next_11 rfl (lv_at hl 0 rfl) ?_
        refine lv_dup hx hb dX11_next_12 rfl ?_
        refine b_get hx hb hts in_X11 hown hW 0 0 11 3 rfl rW_0 rfl (by decide) ⟨rfl, rfl, rfl⟩ (hts _ q746) rW_g3 dX11_next_13 ?_
        refine lv_iconst (v := 1) hx hb dX11_next_16 (by decide) ?_
        refine lv_iadd hx hb dX11_next_17 ?_
        obtain ⟨v56, ev56, hf⟩ := q_ls hf
        refine b_topi ev56 ?_
        obtain ⟨R57, eR57, hf⟩ := q_ls hf
        refine b_put hx hb hts in_X11 tyX11 tyX11_ok nmX11 hown hW 0 0 11 3 rfl rW_0 (rW_p3 eR57) rfl rfl (by decide) ⟨rfl, rfl, rfl⟩ (hts _ q746) rfl (ty := .int) rfl rfl rfl (by rw [rW_l]; decide) dX11_next_18 (fun H locs hW => ?_)
        have hW : bW D g A s H locs [rW g adR (adX 10) (adN 0) R57, xW g adX (adO 0) (adT 0) iX X] := hW
        refine lv_goto (tgt := 0) hx hb dX11_next_21 (by decide) ?_
        exact ih1 _ _ _ _ hW (lv_sub hl [0] rfl) hf
  exact L1 _ _ _ _ _ hW (lv_sub hl [0] rfl) hf
