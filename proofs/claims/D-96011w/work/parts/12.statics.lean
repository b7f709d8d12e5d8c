/-! small static methods: printed by gen/all.py -/
set_option maxRecDepth 100000
def f_X0_isIn (x1 : Int32) (x2 : Int32) (x3 : Int32) : Option Int32 :=
 (if x1 < x2 then
 some 0
 else
 (if x3 < x1 then
 some 0
 else
 some 1))
abbrev rm_X0_isIn : Room := { frames := 0, cells := 0, slots := 0, locals := 0 }
set_option maxHeartbeats 4000000 in
set_option maxRecDepth 100000 in
theorem m_X0_isIn (l : Launch) (D : va_G) (g : Nat → ClassId) (sz : Nat)  (x1 : Int32) (x2 : Int32) (x3 : Int32) (rO : Int32) (hf : f_X0_isIn x1 x2 x3 = some rO) : bMet (S := Unit) l yX0_isIn (ws_ yX0_isIn cX0_isIn 3 (some .boolean)) rm_X0_isIn D g sz [.int x1, .int x2, .int x3] [] (fun _ => True) (fun _ => some (.int rO)) (fun _ => []) := by
  refine b_met (by decide) (Nat.le_of_ble_eq_true rfl) ?_
  intro p e s m args below meth c A Q ls hx hb hml hr hlk hown hname hts hE hl hW
  revert hW; generalize s.heap = H; intro hW
  have hl : lv_has ls 3 [(0, .int x1), (1, .int x2), (2, .int x3)] := hl
  rw [f_X0_isIn] at hf
  refine lv_iload_n hx hb dX0_isIn_0 rfl (lv_at hl 0 rfl) ?_
  refine lv_iload_n hx hb dX0_isIn_1 rfl (lv_at hl 1 rfl) ?_
  refine lv_icmp_lt (tgt := 14) hx hb dX0_isIn_2 (by decide) (fun c1 => ?_) (fun c1 => ?_)
  · have hf := o_t hf c1
    refine lv_iconst (v := 0) hx hb dX0_isIn_14 (by decide) ?_
    cases hf
    exact b_zret hx hb hr hlk hE hW () rfl trivial rfl (by decide) dX0_isIn_15
  · have hf := o_f hf c1
    refine lv_iload_n hx hb dX0_isIn_5 rfl (lv_at hl 0 rfl) ?_
    refine lv_iload_n hx hb dX0_isIn_6 rfl (lv_at hl 2 rfl) ?_
    refine lv_icmp_gt (tgt := 14) hx hb dX0_isIn_7 (by decide) (fun c2 => ?_) (fun c2 => ?_)
    · have hf := o_t hf c2
      refine lv_iconst (v := 0) hx hb dX0_isIn_14 (by decide) ?_
      cases hf
      exact b_zret hx hb hr hlk hE hW () rfl trivial rfl (by decide) dX0_isIn_15
    · have hf := o_f hf c2
      refine lv_iconst (v := 1) hx hb dX0_isIn_10 (by decide) ?_
      refine lv_goto (tgt := 15) hx hb dX0_isIn_11 (by decide) ?_
      cases hf
      exact b_zret hx hb hr hlk hE hW () rfl trivial rfl (by decide) dX0_isIn_15
def f_X0_has (x1 : Int32) (x2 : Int32) : Option Int32 :=
 (if ((x1 >>> (x2 &&& 31)) &&& 1) = 1 then
 some 1
 else
 some 0)
abbrev rm_X0_has : Room := { frames := 0, cells := 0, slots := 0, locals := 0 }
set_option maxHeartbeats 4000000 in
set_option maxRecDepth 100000 in
theorem m_X0_has (l : Launch) (D : va_G) (g : Nat → ClassId) (sz : Nat)  (x1 : Int32) (x2 : Int32) (rO : Int32) (hf : f_X0_has x1 x2 = some rO) : bMet (S := Unit) l yX0_has (ws_ yX0_has cX0_has 2 (some .boolean)) rm_X0_has D g sz [.int x1, .int x2] [] (fun _ => True) (fun _ => some (.int rO)) (fun _ => []) := by
  refine b_met (by decide) (Nat.le_of_ble_eq_true rfl) ?_
  intro p e s m args below meth c A Q ls hx hb hml hr hlk hown hname hts hE hl hW
  revert hW; generalize s.heap = H; intro hW
  have hl : lv_has ls 2 [(0, .int x1), (1, .int x2)] := hl
  rw [f_X0_has] at hf
  refine lv_iload_n hx hb dX0_has_0 rfl (lv_at hl 0 rfl) ?_
  refine lv_iload_n hx hb dX0_has_1 rfl (lv_at hl 1 rfl) ?_
  refine lv_ishr hx hb dX0_has_2 ?_
  refine lv_iconst (v := 1) hx hb dX0_has_3 (by decide) ?_
  refine lv_iand hx hb dX0_has_4 ?_
  refine lv_iconst (v := 1) hx hb dX0_has_5 (by decide) ?_
  refine lv_icmp_ne (tgt := 13) hx hb dX0_has_6 (by decide) (fun c1 => ?_) (fun c1 => ?_)
  · have hf := o_f hf c1
    refine lv_iconst (v := 0) hx hb dX0_has_13 (by decide) ?_
    cases hf
    exact b_zret hx hb hr hlk hE hW () rfl trivial rfl (by decide) dX0_has_14
  · have hf := o_t hf c1
    refine lv_iconst (v := 1) hx hb dX0_has_9 (by decide) ?_
    refine lv_goto (tgt := 14) hx hb dX0_has_10 (by decide) ?_
    cases hf
    exact b_zret hx hb hr hlk hE hW () rfl trivial rfl (by decide) dX0_has_14
def f_X0_within (x1 : Int32) (x2 : Int32) : Option Int32 :=
 o_lt ((if x1 < x2 then x1 else x2)) fun (v1 : Int32) =>
 o_lt ((if (0 : Int32) < v1 then v1 else (0 : Int32))) fun (v2 : Int32) =>
 some v2
abbrev rm_X0_within : Room := { frames := 1, cells := 0, slots := 0, locals := 24 }
set_option maxHeartbeats 4000000 in
set_option maxRecDepth 100000 in
theorem m_X0_within (l : Launch) (D : va_G) (g : Nat → ClassId) (sz : Nat)  (x1 : Int32) (x2 : Int32) (rO : Int32) (hf : f_X0_within x1 x2 = some rO) : bMet (S := Unit) l yX0_within (ws_ yX0_within cX0_within 2 (some .int)) rm_X0_within D g sz [.int x1, .int x2] [] (fun _ => True) (fun _ => some (.int rO)) (fun _ => []) := by
  refine b_met (by decide) (Nat.le_of_ble_eq_true rfl) ?_
  intro p e s m args below meth c A Q ls hx hb hml hr hlk hown hname hts hE hl hW
  revert hW; generalize s.heap = H; intro hW
  have hl : lv_has ls 2 [(0, .int x1), (1, .int x2)] := hl
  rw [f_X0_within] at hf
  refine lv_iconst (v := 0) hx hb dX0_within_0 (by decide) ?_
  refine lv_iload_n hx hb dX0_within_1 rfl (lv_at hl 1 rfl) ?_
  refine lv_iload_n hx hb dX0_within_2 rfl (lv_at hl 0 rfl) ?_
  refine va_mmin hx hb (by rw [hml]; exact hl.1.symm) hown (hts _ q1421) (hts _ q848) (hts _ q92) (hts _ q849) (Nat.le_of_ble_eq_true rfl) (Nat.le_of_ble_eq_true rfl) (Nat.le_of_ble_eq_true rfl) (Nat.le_of_ble_eq_true rfl) dX0_within_3 ?_
  obtain ⟨v1, ev1, hf⟩ := o_ls hf
  refine b_topi ev1 ?_
  refine va_mmax hx hb (by rw [hml]; exact hl.1.symm) hown (hts _ q1422) (hts _ q560) (hts _ q92) (hts _ q561) (Nat.le_of_ble_eq_true rfl) (Nat.le_of_ble_eq_true rfl) (Nat.le_of_ble_eq_true rfl) (Nat.le_of_ble_eq_true rfl) dX0_within_6 ?_
  obtain ⟨v2, ev2, hf⟩ := o_ls hf
  refine b_topi ev2 ?_
  cases hf
  exact b_iret hx hb hr hlk hE hW () rfl trivial rfl dX0_within_9
def f_X0_isShelf (x1 : Int32) : Option Int32 :=
 o_b1 (f_X0_isIn x1 0 7) fun (r1 : Int32) =>
 o_ck (decide (r1 = 0) || decide (r1 = 1)) (some r1)
abbrev rm_X0_isShelf : Room := { frames := 1, cells := 0, slots := 0, locals := 22 }
set_option maxHeartbeats 4000000 in
set_option maxRecDepth 100000 in
theorem m_X0_isShelf (l : Launch) (D : va_G) (g : Nat → ClassId) (sz : Nat)  (x1 : Int32) (rO : Int32) (hf : f_X0_isShelf x1 = some rO) : bMet (S := Unit) l yX0_isShelf (ws_ yX0_isShelf cX0_isShelf 1 (some .boolean)) rm_X0_isShelf D g sz [.int x1] [] (fun _ => True) (fun _ => some (.int rO)) (fun _ => []) := by
  refine b_met (by decide) (Nat.le_of_ble_eq_true rfl) ?_
  intro p e s m args below meth c A Q ls hx hb hml hr hlk hown hname hts hE hl hW
  revert hW; generalize s.heap = H; intro hW
  have hl : lv_has ls 1 [(0, .int x1)] := hl
  rw [f_X0_isShelf] at hf
  refine lv_iload_n hx hb dX0_isShelf_0 rfl (lv_at hl 0 rfl) ?_
  refine lv_iconst (v := 0) hx hb dX0_isShelf_1 (by decide) ?_
  refine lv_bipush (v := 7) hx hb dX0_isShelf_2 (by decide) ?_
  obtain ⟨r1, hc1, hf⟩ := o_b1s hf
  have hp1 : List.Perm [] ([] ++ []) := b_perm [] [] 0 rfl rfl rfl rfl
  refine b_call0 ⟨rfl, rfl⟩ (va_runS (As := [.int x1, .int 0, .int 7]) (rest := []) ⟨hx, hb, hml, hown, hts⟩ (m_X0_isIn l D g H.size x1 0 7 r1 hc1) (va_cwS 3 hts (lw_S q344 q345 q76 q346) rfl rfl rfl (by decide +kernel) ⟨Nat.le_of_ble_eq_true rfl, Nat.le_of_ble_eq_true rfl⟩) (b_preS hW hp1) rfl rfl hl.1 rfl (lv_room (Nat.le_of_ble_eq_true rfl)) dX0_isShelf_4 ⟨Nat.le_of_ble_eq_true rfl, Nat.le_of_ble_eq_true rfl⟩) hW hp1 (fun _ _ H locs hW => ?_)
  have hW : bW D g A s H locs [] := hW
  obtain ⟨h2, hf⟩ := o_cs hf
  cases hf
  exact b_zret hx hb hr hlk hE hW () rfl trivial rfl h2 dX0_isShelf_7
def f_X0_isYears (x1 : Int32) : Option Int32 :=
 o_b1 (f_X0_isIn x1 1 12) fun (r1 : Int32) =>
 o_ck (decide (r1 = 0) || decide (r1 = 1)) (some r1)
abbrev rm_X0_isYears : Room := { frames := 1, cells := 0, slots := 0, locals := 22 }
set_option maxHeartbeats 4000000 in
set_option maxRecDepth 100000 in
theorem m_X0_isYears (l : Launch) (D : va_G) (g : Nat → ClassId) (sz : Nat)  (x1 : Int32) (rO : Int32) (hf : f_X0_isYears x1 = some rO) : bMet (S := Unit) l yX0_isYears (ws_ yX0_isYears cX0_isYears 1 (some .boolean)) rm_X0_isYears D g sz [.int x1] [] (fun _ => True) (fun _ => some (.int rO)) (fun _ => []) := by
  refine b_met (by decide) (Nat.le_of_ble_eq_true rfl) ?_
  intro p e s m args below meth c A Q ls hx hb hml hr hlk hown hname hts hE hl hW
  revert hW; generalize s.heap = H; intro hW
  have hl : lv_has ls 1 [(0, .int x1)] := hl
  rw [f_X0_isYears] at hf
  refine lv_iload_n hx hb dX0_isYears_0 rfl (lv_at hl 0 rfl) ?_
  refine lv_iconst (v := 1) hx hb dX0_isYears_1 (by decide) ?_
  refine lv_bipush (v := 12) hx hb dX0_isYears_2 (by decide) ?_
  obtain ⟨r1, hc1, hf⟩ := o_b1s hf
  have hp1 : List.Perm [] ([] ++ []) := b_perm [] [] 0 rfl rfl rfl rfl
  refine b_call0 ⟨rfl, rfl⟩ (va_runS (As := [.int x1, .int 1, .int 12]) (rest := []) ⟨hx, hb, hml, hown, hts⟩ (m_X0_isIn l D g H.size x1 1 12 r1 hc1) (va_cwS 3 hts (lw_S q344 q345 q76 q346) rfl rfl rfl (by decide +kernel) ⟨Nat.le_of_ble_eq_true rfl, Nat.le_of_ble_eq_true rfl⟩) (b_preS hW hp1) rfl rfl hl.1 rfl (lv_room (Nat.le_of_ble_eq_true rfl)) dX0_isYears_4 ⟨Nat.le_of_ble_eq_true rfl, Nat.le_of_ble_eq_true rfl⟩) hW hp1 (fun _ _ H locs hW => ?_)
  have hW : bW D g A s H locs [] := hW
  obtain ⟨h2, hf⟩ := o_cs hf
  cases hf
  exact b_zret hx hb hr hlk hE hW () rfl trivial rfl h2 dX0_isYears_7
