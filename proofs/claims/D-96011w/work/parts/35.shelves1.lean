/-! THE SHELVES: printed by gen/all.py -/
set_option maxRecDepth 100000
def xRf (by_ : Int32) : List Value := [.null, .null, .null, .null, .null, .int 0, .int by_]
def rS : Nat → Int32
  | 0 => 0
  | 1 => 1
  | 2 => 2
  | 3 => 3
  | _ => 4
theorem q_k5_0 {k : Nat} {A0 A1 A2 A3 A4 : Prop} (h : q_k5 k A0 A1 A2 A3 A4) (e : k = 0) : A0 := by subst e; exact h
theorem q_k5_1 {k : Nat} {A0 A1 A2 A3 A4 : Prop} (h : q_k5 k A0 A1 A2 A3 A4) (e : k = 1) : A1 := by subst e; exact h
theorem q_k5_2 {k : Nat} {A0 A1 A2 A3 A4 : Prop} (h : q_k5 k A0 A1 A2 A3 A4) (e : k = 2) : A2 := by subst e; exact h
theorem q_k5_3 {k : Nat} {A0 A1 A2 A3 A4 : Prop} (h : q_k5 k A0 A1 A2 A3 A4) (e : k = 3) : A3 := by subst e; exact h
theorem q_k5_4 {k j : Nat} {A0 A1 A2 A3 A4 : Prop} (h : q_k5 k A0 A1 A2 A3 A4) (e : k = j + 4) : A4 := by subst e; exact h
theorem b_zq {C n d : String} {A : Nat → Prop} {U : State} {H : Heap} (h : va_Zq C n d A U H) : ∃ v : Value, (v = .null ∨ ∃ t : Nat, v = .ref t) ∧ va_Z C n d v A U H := by
  rcases h with h | ⟨t, h⟩
  · exact ⟨.null, Or.inl rfl, h⟩
  · exact ⟨.ref t, Or.inr ⟨t, rfl⟩, h⟩
theorem b_castG {p : Program} {l : Launch} {e : Env} {R : Room} {s : State} {m : MethodId} {args : Array Value} {below : List Frame} {meth : Method} {c : Code} {H : Heap} {locs : List Loc} {cells slots : Nat} {Q : State → Prop} {cc : ByteArray} {pc : Nat} {ls : Array Slot} {rest : List Value} {D : va_G} {g : Nat → ClassId} {A : Nat → Prop} {a : Nat} {Bs : List va_W} {L : List Nat} {kd : Nat → Nat} {nu aa : Nat → Int32} (hx : p.tables.exec = Jvm.exec) (hb : c.code = cc) {own nm : String} {index : Nat} (hown : s.vm.findClass own = some m.cls) (hlink : (Cond.classLink own index nm).before args s = true) (hW : bW D g A s H locs Bs) (pp : Nat) (hpp : Bs[pp]? = some (gW L kd nu aa)) (hz : gIn L kd a = true) (tb : Nat → Bool) (htb : ∀ k, k < 6 → (if tb k then (gC k = nm ∨ (gC k, nm) ∈ xwC) else (gC k, nm) ∈ xwN)) (hyes : tb (kd a) = true) (hdg : decode cc pc = .ok (.checkcast index, 3))
    (kk : W p l e R s m args below meth c H locs cells slots Q (F0 m (pc + 3) ls (.ref a :: rest))) : W p l e R s m args below meth c H locs cells slots Q (F0 m pc ls (.ref a :: rest)) := by
  obtain ⟨h1, h2⟩ := gIn_1 hz
  have hrc := g_recv hW pp hpp hz
  have h := htb _ h2
  rw [if_pos hyes] at h
  rcases h with h | h
  · rw [h] at hrc
    exact va_castE hx hb hown hlink hrc hdg kk
  · exact va_castY hx hb hown hlink (hW.2.2.2.2.2.2.2.1 _ h) hrc hdg kk
theorem r_push {s : State} {H : Heap} {locs : List Loc} {D : va_G} {g : Nat → ClassId} {A : Nat → Prop} {Bs : List va_W} {LR : List Nat} {so rn : Nat → Nat} {ri : Nat → Nat → Int32} {rl : Nat → Nat → Int64} {z k n : Nat} {f : Nat → Int32} {h : Nat → Int64} (hW : bW D g A s H locs (pW g LR so rn ri rl :: [(z, rE g k n f h)] :: Bs)) : z ∉ LR ∧ bW D g A s H locs (pW g (z :: LR) (fun q => if q = z then k else so q) (fun q => if q = z then n else rn q) (fun q => if q = z then f else ri q) (fun q => if q = z then h else rl q) :: Bs) := by
  have hz : z ∉ LR := by
    obtain ⟨-, -, h3, -⟩ := hW
    have h3 : va_D A (va_pl LR (fun a => rE g (so a) (rn a) (ri a) (rl a)) ++ ([(z, rE g k n f h)] ++ Bs.flatten)) := h3
    rw [← List.append_assoc] at h3
    exact va_pl_fresh2 (X := []) (by simpa using (b_Dapp h3).1)
  refine ⟨hz, ?_⟩
  have e : pW g (z :: LR) (fun q => if q = z then k else so q) (fun q => if q = z then n else rn q) (fun q => if q = z then f else ri q) (fun q => if q = z then h else rl q) = (z, rE g k n f h) :: pW g LR so rn ri rl := by
    unfold pW va_pl
    rw [List.map_cons]
    refine List.cons_eq_cons.mpr ⟨by simp, List.map_congr_left fun x hx => ?_⟩
    have hne : x ≠ z := fun e => hz (e ▸ hx)
    simp [hne]
  rw [e]
  have hW2 := b_perms hW (List.Perm.swap [(z, rE g k n f h)] (pW g LR so rn ri rl) Bs)
  exact hW2
abbrev rm_J0_init_3_R : Room := { frames := 1, cells := 0, slots := 0, locals := 24 }
set_option maxHeartbeats 4000000 in
set_option maxRecDepth 100000 in
theorem m_J0_init_3_R (l : Launch) (D : va_G) (g : Nat → ClassId) (sz : Nat) (a : Nat) : bMet (S := Unit) l yJ0_init_3 (ws_ yJ0_init_3 cJ0_init_3 5 none) rm_J0_init_3_R D g sz [.ref a, .null, .null, .int 0, .int 0] [[(a, .inr (4, [.null, .null, .null, .null, .null, .int 0, .int 0]))]] (fun _ => True) (fun _ => none) (fun _ => [[(a, .inr (4, [.null, .null, .null, .null, .null, .int 0, .int 0]))]]) := by
  refine b_met (by decide) (Nat.le_of_ble_eq_true rfl) ?_
  intro p e s m args below meth c A Q ls hx hb hml hr hlk hown hname hts hE hl hW
  revert hW; generalize s.heap = H; intro hW
  have hl : lv_has ls 5 [(0, .ref a), (1, .null), (2, .null), (3, .int 0), (4, .int 0)] := hl
  refine lv_aload_n hx hb dJ0_init_3_0 rfl (lv_at hl 0 rfl) ?_
  refine W.objInit hx hb hown (hts _ q266) (hts _ q116) (hts _ q117) rfl (by rw [hml]; exact hl.1) rfl dJ0_init_3_1 (Nat.le_of_ble_eq_true rfl) (Nat.le_of_ble_eq_true rfl) ?_
  refine W.eq (g2 := F0 m 4 ls []) rfl ?_
  refine lv_aload_n hx hb dJ0_init_3_4 rfl (lv_at hl 0 rfl) ?_
  refine lv_aload_n hx hb dJ0_init_3_5 rfl (lv_at hl 0 rfl) ?_
  refine b_put (v := .ref a) hx hb hts in_X4 tyX4 tyX4_ok nmX4 hown hW 0 0 4 0 rfl rfl rfl rfl rfl (by decide) ⟨rfl, rfl, rfl⟩ (hts _ q302) rfl (ty := (.object "java/lang/Throwable")) rfl rfl rfl (Nat.le_of_ble_eq_true rfl) dJ0_init_3_6 (fun H locs hW => ?_)
  have hW : bW D g A s H _ [[(a, .inr (4, [.ref a, .null, .null, .null, .null, .int 0, .int 0]))]] := hW
  refine lv_aload_n hx hb dJ0_init_3_9 rfl (lv_at hl 0 rfl) ?_
  obtain ⟨vs1, hvs1, hZvs1⟩ := b_zq (b_eK hW).2.2.2.1.1
  refine va_gets hx hb hZvs1 hW.2.2.2.1 hown (hts _ q267) (fun _ h => h) dJ0_init_3_10 ?_
  refine b_put (v := vs1) hx hb hts in_X4 tyX4 tyX4_ok nmX4 hown hW 0 0 4 1 rfl rfl rfl rfl rfl (by decide) ⟨rfl, rfl, rfl⟩ (hts _ q303) rfl (ty := (.array (.object "java/lang/StackTraceElement"))) rfl (by rcases hvs1 with rfl | ⟨t, rfl⟩ <;> rfl) (by rcases hvs1 with rfl | ⟨t, rfl⟩ <;> rfl) (Nat.le_of_ble_eq_true rfl) dJ0_init_3_13 (fun H locs hW => ?_)
  have hW : bW D g A s H _ [[(a, .inr (4, [.ref a, vs1, .null, .null, .null, .int 0, .int 0]))]] := hW
  refine lv_aload_n hx hb dJ0_init_3_16 rfl (lv_at hl 0 rfl) ?_
  obtain ⟨vs2, hvs2, hZvs2⟩ := b_zq (b_eK hW).2.2.2.2.1.1
  refine va_gets hx hb hZvs2 hW.2.2.2.1 hown (hts _ q269) (fun _ h => h) dJ0_init_3_17 ?_
  refine b_put (v := vs2) hx hb hts in_X4 tyX4 tyX4_ok nmX4 hown hW 0 0 4 2 rfl rfl rfl rfl rfl (by decide) ⟨rfl, rfl, rfl⟩ (hts _ q304) rfl (ty := (.object "java/util/List")) rfl (by rcases hvs2 with rfl | ⟨t, rfl⟩ <;> rfl) (by rcases hvs2 with rfl | ⟨t, rfl⟩ <;> rfl) (Nat.le_of_ble_eq_true rfl) dJ0_init_3_20 (fun H locs hW => ?_)
  have hW : bW D g A s H _ [[(a, .inr (4, [.ref a, vs1, vs2, .null, .null, .int 0, .int 0]))]] := hW
  refine lv_iload hx hb dJ0_init_3_23 (lv_at hl 4 rfl) ?_
  refine lv_if_eq (tgt := 36) hx hb dJ0_init_3_25 (by decide) (fun hc => ?_) (fun hc => absurd hc (by decide))
  refine lv_aload_n hx hb dJ0_init_3_36 rfl (lv_at hl 0 rfl) ?_
  refine lv_null hx hb dJ0_init_3_37 ?_
  refine b_put (v := .null) hx hb hts in_X4 tyX4 tyX4_ok nmX4 hown hW 0 0 4 1 rfl rfl rfl rfl rfl (by decide) ⟨rfl, rfl, rfl⟩ (hts _ q303) rfl (ty := (.array (.object "java/lang/StackTraceElement"))) rfl rfl rfl (Nat.le_of_ble_eq_true rfl) dJ0_init_3_38 (fun H locs hW => ?_)
  have hW : bW D g A s H _ [[(a, .inr (4, [.ref a, .null, vs2, .null, .null, .int 0, .int 0]))]] := hW
  refine lv_aload_n hx hb dJ0_init_3_41 rfl (lv_at hl 0 rfl) ?_
  refine lv_aload_nN hx hb dJ0_init_3_42 rfl (lv_at hl 1 rfl) ?_
  refine b_put (v := .null) hx hb hts in_X4 tyX4 tyX4_ok nmX4 hown hW 0 0 4 3 rfl rfl rfl rfl rfl (by decide) ⟨rfl, rfl, rfl⟩ (hts _ q301) rfl (ty := (.object "java/lang/String")) rfl rfl rfl (Nat.le_of_ble_eq_true rfl) dJ0_init_3_43 (fun H locs hW => ?_)
  have hW : bW D g A s H _ [[(a, .inr (4, [.ref a, .null, vs2, .null, .null, .int 0, .int 0]))]] := hW
  refine lv_aload_n hx hb dJ0_init_3_46 rfl (lv_at hl 0 rfl) ?_
  refine lv_aload_nN hx hb dJ0_init_3_47 rfl (lv_at hl 2 rfl) ?_
  refine b_put (v := .null) hx hb hts in_X4 tyX4 tyX4_ok nmX4 hown hW 0 0 4 0 rfl rfl rfl rfl rfl (by decide) ⟨rfl, rfl, rfl⟩ (hts _ q302) rfl (ty := (.object "java/lang/Throwable")) rfl rfl rfl (Nat.le_of_ble_eq_true rfl) dJ0_init_3_48 (fun H locs hW => ?_)
  have hW : bW D g A s H _ [[(a, .inr (4, [.null, .null, vs2, .null, .null, .int 0, .int 0]))]] := hW
  refine lv_iload_n hx hb dJ0_init_3_51 rfl (lv_at hl 3 rfl) ?_
  refine lv_if_ne (tgt := 60) hx hb dJ0_init_3_52 (by decide) (fun hc => absurd hc (by decide)) (fun hc => ?_)
  refine lv_aload_n hx hb dJ0_init_3_55 rfl (lv_at hl 0 rfl) ?_
  refine lv_null hx hb dJ0_init_3_56 ?_
  refine b_put (v := .null) hx hb hts in_X4 tyX4 tyX4_ok nmX4 hown hW 0 0 4 2 rfl rfl rfl rfl rfl (by decide) ⟨rfl, rfl, rfl⟩ (hts _ q304) rfl (ty := (.object "java/util/List")) rfl rfl rfl (Nat.le_of_ble_eq_true rfl) dJ0_init_3_57 (fun H locs hW => ?_)
  have hW : bW D g A s H _ [[(a, .inr (4, [.null, .null, .null, .null, .null, .int 0, .int 0]))]] := hW
  exact b_vret hx hb hr hlk hE hW () rfl trivial rfl dJ0_init_3_60
abbrev rm_J1_init_2_R : Room := { frames := 2, cells := 0, slots := 0, locals := 48 }
set_option maxHeartbeats 4000000 in
set_option maxRecDepth 100000 in
theorem m_J1_init_2_R (l : Launch) (D : va_G) (g : Nat → ClassId) (sz : Nat) (a : Nat) : bMet (S := Unit) l yJ1_init_2 (ws_ yJ1_init_2 cJ1_init_2 5 none) rm_J1_init_2_R D g sz [.ref a, .null, .null, .int 0, .int 0] [[(a, .inr (4, [.null, .null, .null, .null, .null, .int 0, .int 0]))]] (fun _ => True) (fun _ => none) (fun _ => [[(a, .inr (4, [.null, .null, .null, .null, .null, .int 0, .int 0]))]]) := by
  refine b_met (by decide) (Nat.le_of_ble_eq_true rfl) ?_
  intro p e s m args below meth c A Q ls hx hb hml hr hlk hown hname hts hE hl hW
  revert hW; generalize s.heap = H; intro hW
  have hl : lv_has ls 5 [(0, .ref a), (1, .null), (2, .null), (3, .int 0), (4, .int 0)] := hl
  refine lv_aload_n hx hb dJ1_init_2_0 rfl (lv_at hl 0 rfl) ?_
  refine lv_aload_nN hx hb dJ1_init_2_1 rfl (lv_at hl 1 rfl) ?_
  refine lv_aload_nN hx hb dJ1_init_2_2 rfl (lv_at hl 2 rfl) ?_
  refine lv_iload_n hx hb dJ1_init_2_3 rfl (lv_at hl 3 rfl) ?_
  refine lv_iload hx hb dJ1_init_2_4 (lv_at hl 4 rfl) ?_
  have hp1 : List.Perm ([[(a, .inr (4, [.null, .null, .null, .null, .null, .int 0, .int 0]))]] : List va_W) ([[(a, .inr (4, [.null, .null, .null, .null, .null, .int 0, .int 0]))]] ++ []) := b_perm [0] [] 1 rfl rfl rfl rfl
  refine b_call (va_runI (As := [.null, .null, .int 0, .int 0]) (rest := []) ⟨hx, hb, hml, hown, hts⟩ (m_J0_init_3_R l D g H.size a) (cwI 4 hts (lw_meth q405) rfl rfl rfl (hts _ q80) (hts _ q403) (hts _ q404) rfl (by decide +kernel) ⟨Nat.le_of_ble_eq_true rfl, Nat.le_of_ble_eq_true rfl⟩) (b_preS hW hp1) rfl rfl hl.1 rfl (lv_room (Nat.le_of_ble_eq_true rfl)) dJ1_init_2_6 ⟨Nat.le_of_ble_eq_true rfl, Nat.le_of_ble_eq_true rfl⟩) hW hp1 (fun _ _ H locs hW => ?_)
  refine W.cs (cells' := 0) (slots' := 0) rfl rfl ?_
  have hW : bW D g A s H _ [[(a, .inr (4, [.null, .null, .null, .null, .null, .int 0, .int 0]))]] := hW
  exact b_vret hx hb hr hlk hE hW () rfl trivial rfl dJ1_init_2_9
abbrev rm_J2_init_2_R : Room := { frames := 3, cells := 0, slots := 0, locals := 72 }
set_option maxHeartbeats 4000000 in
set_option maxRecDepth 100000 in
theorem m_J2_init_2_R (l : Launch) (D : va_G) (g : Nat → ClassId) (sz : Nat) (a : Nat) : bMet (S := Unit) l yJ2_init_2 (ws_ yJ2_init_2 cJ2_init_2 5 none) rm_J2_init_2_R D g sz [.ref a, .null, .null, .int 0, .int 0] [[(a, .inr (4, [.null, .null, .null, .null, .null, .int 0, .int 0]))]] (fun _ => True) (fun _ => none) (fun _ => [[(a, .inr (4, [.null, .null, .null, .null, .null, .int 0, .int 0]))]]) := by
  refine b_met (by decide) (Nat.le_of_ble_eq_true rfl) ?_
  intro p e s m args below meth c A Q ls hx hb hml hr hlk hown hname hts hE hl hW
  revert hW; generalize s.heap = H; intro hW
  have hl : lv_has ls 5 [(0, .ref a), (1, .null), (2, .null), (3, .int 0), (4, .int 0)] := hl
  refine lv_aload_n hx hb dJ2_init_2_0 rfl (lv_at hl 0 rfl) ?_
  refine lv_aload_nN hx hb dJ2_init_2_1 rfl (lv_at hl 1 rfl) ?_
  refine lv_aload_nN hx hb dJ2_init_2_2 rfl (lv_at hl 2 rfl) ?_
  refine lv_iload_n hx hb dJ2_init_2_3 rfl (lv_at hl 3 rfl) ?_
  refine lv_iload hx hb dJ2_init_2_4 (lv_at hl 4 rfl) ?_
  have hp1 : List.Perm ([[(a, .inr (4, [.null, .null, .null, .null, .null, .int 0, .int 0]))]] : List va_W) ([[(a, .inr (4, [.null, .null, .null, .null, .null, .int 0, .int 0]))]] ++ []) := b_perm [0] [] 1 rfl rfl rfl rfl
  refine b_call (va_runI (As := [.null, .null, .int 0, .int 0]) (rest := []) ⟨hx, hb, hml, hown, hts⟩ (m_J1_init_2_R l D g H.size a) (cwI 4 hts (lw_meth q402) rfl rfl rfl (hts _ q81) (hts _ q400) (hts _ q401) rfl (by decide +kernel) ⟨Nat.le_of_ble_eq_true rfl, Nat.le_of_ble_eq_true rfl⟩) (b_preS hW hp1) rfl rfl hl.1 rfl (lv_room (Nat.le_of_ble_eq_true rfl)) dJ2_init_2_6 ⟨Nat.le_of_ble_eq_true rfl, Nat.le_of_ble_eq_true rfl⟩) hW hp1 (fun _ _ H locs hW => ?_)
  refine W.cs (cells' := 0) (slots' := 0) rfl rfl ?_
  have hW : bW D g A s H _ [[(a, .inr (4, [.null, .null, .null, .null, .null, .int 0, .int 0]))]] := hW
  exact b_vret hx hb hr hlk hE hW () rfl trivial rfl dJ2_init_2_9
abbrev rm_X4_init : Room := { frames := 4, cells := 0, slots := 0, locals := 96 }
set_option maxHeartbeats 4000000 in
set_option maxRecDepth 100000 in
theorem m_X4_init (l : Launch) (D : va_G) (g : Nat → ClassId) (sz : Nat) (a : Nat) (x1 : Int32) : bMet (S := Unit) l yX4_init (ws_ yX4_init cX4_init 2 none) rm_X4_init D g sz [.ref a, .int x1] [[(a, .inr (4, [.null, .null, .null, .null, .null, .int 0, .int 0]))]] (fun _ => True) (fun _ => none) (fun _ => [[(a, .inr (4, xRf x1))]]) := by
  refine b_met (by decide) (Nat.le_of_ble_eq_true rfl) ?_
  intro p e s m args below meth c A Q ls hx hb hml hr hlk hown hname hts hE hl hW
  revert hW; generalize s.heap = H; intro hW
  have hl : lv_has ls 2 [(0, .ref a), (1, .int x1)] := hl
  refine lv_aload_n hx hb dX4_init_0 rfl (lv_at hl 0 rfl) ?_
  refine lv_null hx hb dX4_init_1 ?_
  refine lv_null hx hb dX4_init_2 ?_
  refine lv_iconst (v := 0) hx hb dX4_init_3 (by decide) ?_
  refine lv_iconst (v := 0) hx hb dX4_init_4 (by decide) ?_
  have hp1 : List.Perm ([[(a, .inr (4, [.null, .null, .null, .null, .null, .int 0, .int 0]))]] : List va_W) ([[(a, .inr (4, [.null, .null, .null, .null, .null, .int 0, .int 0]))]] ++ []) := b_perm [0] [] 1 rfl rfl rfl rfl
  refine b_call (va_runI (As := [.null, .null, .int 0, .int 0]) (rest := []) ⟨hx, hb, hml, hown, hts⟩ (m_J2_init_2_R l D g H.size a) (cwI 4 hts (lw_meth q399) rfl rfl rfl (hts _ q82) (hts _ q397) (hts _ q398) rfl (by decide +kernel) ⟨Nat.le_of_ble_eq_true rfl, Nat.le_of_ble_eq_true rfl⟩) (b_preS hW hp1) rfl rfl hl.1 rfl (lv_room (Nat.le_of_ble_eq_true rfl)) dX4_init_5 ⟨Nat.le_of_ble_eq_true rfl, Nat.le_of_ble_eq_true rfl⟩) hW hp1 (fun _ _ H locs hW => ?_)
  refine W.cs (cells' := 0) (slots' := 0) rfl rfl ?_
  have hW : bW D g A s H _ [[(a, .inr (4, [.null, .null, .null, .null, .null, .int 0, .int 0]))]] := hW
  refine lv_aload_n hx hb dX4_init_8 rfl (lv_at hl 0 rfl) ?_
  refine lv_iload_n hx hb dX4_init_9 rfl (lv_at hl 1 rfl) ?_
  refine b_putF hx hb hts in_X4 tyX4 tyX4_ok nmX4 hown hW 0 0 4 6 rfl rfl rfl rfl rfl (by decide) ⟨rfl, rfl, rfl⟩ (hts _ q406) rfl hname rfl (ty := .int) rfl rfl rfl (Nat.le_of_ble_eq_true rfl) dX4_init_10 (fun H locs hW => ?_)
  have hW : bW D g A s H _ [[(a, .inr (4, [.null, .null, .null, .null, .null, .int 0, .int x1]))]] := hW
  exact b_vret hx hb hr hlk hE hW () rfl trivial rfl dX4_init_13
abbrev rm_J0_init_3_F : Room := { frames := 1, cells := 0, slots := 0, locals := 24 }
set_option maxHeartbeats 4000000 in
set_option maxRecDepth 100000 in
theorem m_J0_init_3_F (l : Launch) (D : va_G) (g : Nat → ClassId) (sz : Nat) (a : Nat) : bMet (S := Unit) l yJ0_init_3 (ws_ yJ0_init_3 cJ0_init_3 5 none) rm_J0_init_3_F D g sz [.ref a, .null, .null, .int 0, .int 0] [[(a, .inr (12, [.null, .null, .null, .null, .null, .int 0, .int 0]))]] (fun _ => True) (fun _ => none) (fun _ => [[(a, .inr (12, [.null, .null, .null, .null, .null, .int 0, .int 0]))]]) := by
  refine b_met (by decide) (Nat.le_of_ble_eq_true rfl) ?_
  intro p e s m args below meth c A Q ls hx hb hml hr hlk hown hname hts hE hl hW
  revert hW; generalize s.heap = H; intro hW
  have hl : lv_has ls 5 [(0, .ref a), (1, .null), (2, .null), (3, .int 0), (4, .int 0)] := hl
  refine lv_aload_n hx hb dJ0_init_3_0 rfl (lv_at hl 0 rfl) ?_
  refine W.objInit hx hb hown (hts _ q266) (hts _ q116) (hts _ q117) rfl (by rw [hml]; exact hl.1) rfl dJ0_init_3_1 (Nat.le_of_ble_eq_true rfl) (Nat.le_of_ble_eq_true rfl) ?_
  refine W.eq (g2 := F0 m 4 ls []) rfl ?_
  refine lv_aload_n hx hb dJ0_init_3_4 rfl (lv_at hl 0 rfl) ?_
  refine lv_aload_n hx hb dJ0_init_3_5 rfl (lv_at hl 0 rfl) ?_
  refine b_put (v := .ref a) hx hb hts in_X12 tyX12 tyX12_ok nmX12 hown hW 0 0 12 0 rfl rfl rfl rfl rfl (by decide) ⟨rfl, rfl, rfl⟩ (hts _ q302) rfl (ty := (.object "java/lang/Throwable")) rfl rfl rfl (Nat.le_of_ble_eq_true rfl) dJ0_init_3_6 (fun H locs hW => ?_)
  have hW : bW D g A s H _ [[(a, .inr (12, [.ref a, .null, .null, .null, .null, .int 0, .int 0]))]] := hW
  refine lv_aload_n hx hb dJ0_init_3_9 rfl (lv_at hl 0 rfl) ?_
  obtain ⟨vs1, hvs1, hZvs1⟩ := b_zq (b_eK hW).2.2.2.1.1
  refine va_gets hx hb hZvs1 hW.2.2.2.1 hown (hts _ q267) (fun _ h => h) dJ0_init_3_10 ?_
  refine b_put (v := vs1) hx hb hts in_X12 tyX12 tyX12_ok nmX12 hown hW 0 0 12 1 rfl rfl rfl rfl rfl (by decide) ⟨rfl, rfl, rfl⟩ (hts _ q303) rfl (ty := (.array (.object "java/lang/StackTraceElement"))) rfl (by rcases hvs1 with rfl | ⟨t, rfl⟩ <;> rfl) (by rcases hvs1 with rfl | ⟨t, rfl⟩ <;> rfl) (Nat.le_of_ble_eq_true rfl) dJ0_init_3_13 (fun H locs hW => ?_)
  have hW : bW D g A s H _ [[(a, .inr (12, [.ref a, vs1, .null, .null, .null, .int 0, .int 0]))]] := hW
  refine lv_aload_n hx hb dJ0_init_3_16 rfl (lv_at hl 0 rfl) ?_
  obtain ⟨vs2, hvs2, hZvs2⟩ := b_zq (b_eK hW).2.2.2.2.1.1
  refine va_gets hx hb hZvs2 hW.2.2.2.1 hown (hts _ q269) (fun _ h => h) dJ0_init_3_17 ?_
  refine b_put (v := vs2) hx hb hts in_X12 tyX12 tyX12_ok nmX12 hown hW 0 0 12 2 rfl rfl rfl rfl rfl (by decide) ⟨rfl, rfl, rfl⟩ (hts _ q304) rfl (ty := (.object "java/util/List")) rfl (by rcases hvs2 with rfl | ⟨t, rfl⟩ <;> rfl) (by rcases hvs2 with rfl | ⟨t, rfl⟩ <;> rfl) (Nat.le_of_ble_eq_true rfl) dJ0_init_3_20 (fun H locs hW => ?_)
  have hW : bW D g A s H _ [[(a, .inr (12, [.ref a, vs1, vs2, .null, .null, .int 0, .int 0]))]] := hW
  refine lv_iload hx hb dJ0_init_3_23 (lv_at hl 4 rfl) ?_
  refine lv_if_eq (tgt := 36) hx hb dJ0_init_3_25 (by decide) (fun hc => ?_) (fun hc => absurd hc (by decide))
  refine lv_aload_n hx hb dJ0_init_3_36 rfl (lv_at hl 0 rfl) ?_
  refine lv_null hx hb dJ0_init_3_37 ?_
  refine b_put (v := .null) hx hb hts in_X12 tyX12 tyX12_ok nmX12 hown hW 0 0 12 1 rfl rfl rfl rfl rfl (by decide) ⟨rfl, rfl, rfl⟩ (hts _ q303) rfl (ty := (.array (.object "java/lang/StackTraceElement"))) rfl rfl rfl (Nat.le_of_ble_eq_true rfl) dJ0_init_3_38 (fun H locs hW => ?_)
  have hW : bW D g A s H _ [[(a, .inr (12, [.ref a, .null, vs2, .null, .null, .int 0, .int 0]))]] := hW
  refine lv_aload_n hx hb dJ0_init_3_41 rfl (lv_at hl 0 rfl) ?_
  refine lv_aload_nN hx hb dJ0_init_3_42 rfl (lv_at hl 1 rfl) ?_
  refine b_put (v := .null) hx hb hts in_X12 tyX12 tyX12_ok nmX12 hown hW 0 0 12 3 rfl rfl rfl rfl rfl (by decide) ⟨rfl, rfl, rfl⟩ (hts _ q301) rfl (ty := (.object "java/lang/String")) rfl rfl rfl (Nat.le_of_ble_eq_true rfl) dJ0_init_3_43 (fun H locs hW => ?_)
  have hW : bW D g A s H _ [[(a, .inr (12, [.ref a, .null, vs2, .null, .null, .int 0, .int 0]))]] := hW
  refine lv_aload_n hx hb dJ0_init_3_46 rfl (lv_at hl 0 rfl) ?_
  refine lv_aload_nN hx hb dJ0_init_3_47 rfl (lv_at hl 2 rfl) ?_
  refine b_put (v := .null) hx hb hts in_X12 tyX12 tyX12_ok nmX12 hown hW 0 0 12 0 rfl rfl rfl rfl rfl (by decide) ⟨rfl, rfl, rfl⟩ (hts _ q302) rfl (ty := (.object "java/lang/Throwable")) rfl rfl rfl (Nat.le_of_ble_eq_true rfl) dJ0_init_3_48 (fun H locs hW => ?_)
  have hW : bW D g A s H _ [[(a, .inr (12, [.null, .null, vs2, .null, .null, .int 0, .int 0]))]] := hW
  refine lv_iload_n hx hb dJ0_init_3_51 rfl (lv_at hl 3 rfl) ?_
  refine lv_if_ne (tgt := 60) hx hb dJ0_init_3_52 (by decide) (fun hc => absurd hc (by decide)) (fun hc => ?_)
  refine lv_aload_n hx hb dJ0_init_3_55 rfl (lv_at hl 0 rfl) ?_
  refine lv_null hx hb dJ0_init_3_56 ?_
  refine b_put (v := .null) hx hb hts in_X12 tyX12 tyX12_ok nmX12 hown hW 0 0 12 2 rfl rfl rfl rfl rfl (by decide) ⟨rfl, rfl, rfl⟩ (hts _ q304) rfl (ty := (.object "java/util/List")) rfl rfl rfl (Nat.le_of_ble_eq_true rfl) dJ0_init_3_57 (fun H locs hW => ?_)
  have hW : bW D g A s H _ [[(a, .inr (12, [.null, .null, .null, .null, .null, .int 0, .int 0]))]] := hW
  exact b_vret hx hb hr hlk hE hW () rfl trivial rfl dJ0_init_3_60
abbrev rm_J1_init_2_F : Room := { frames := 2, cells := 0, slots := 0, locals := 48 }
set_option maxHeartbeats 4000000 in
set_option maxRecDepth 100000 in
theorem m_J1_init_2_F (l : Launch) (D : va_G) (g : Nat → ClassId) (sz : Nat) (a : Nat) : bMet (S := Unit) l yJ1_init_2 (ws_ yJ1_init_2 cJ1_init_2 5 none) rm_J1_init_2_F D g sz [.ref a, .null, .null, .int 0, .int 0] [[(a, .inr (12, [.null, .null, .null, .null, .null, .int 0, .int 0]))]] (fun _ => True) (fun _ => none) (fun _ => [[(a, .inr (12, [.null, .null, .null, .null, .null, .int 0, .int 0]))]]) := by
  refine b_met (by decide) (Nat.le_of_ble_eq_true rfl) ?_
  intro p e s m args below meth c A Q ls hx hb hml hr hlk hown hname hts hE hl hW
  revert hW; generalize s.heap = H; intro hW
  have hl : lv_has ls 5 [(0, .ref a), (1, .null), (2, .null), (3, .int 0), (4, .int 0)] := hl
  refine lv_aload_n hx hb dJ1_init_2_0 rfl (lv_at hl 0 rfl) ?_
  refine lv_aload_nN hx hb dJ1_init_2_1 rfl (lv_at hl 1 rfl) ?_
  refine lv_aload_nN hx hb dJ1_init_2_2 rfl (lv_at hl 2 rfl) ?_
  refine lv_iload_n hx hb dJ1_init_2_3 rfl (lv_at hl 3 rfl) ?_
  refine lv_iload hx hb dJ1_init_2_4 (lv_at hl 4 rfl) ?_
  have hp1 : List.Perm ([[(a, .inr (12, [.null, .null, .null, .null, .null, .int 0, .int 0]))]] : List va_W) ([[(a, .inr (12, [.null, .null, .null, .null, .null, .int 0, .int 0]))]] ++ []) := b_perm [0] [] 1 rfl rfl rfl rfl
  refine b_call (va_runI (As := [.null, .null, .int 0, .int 0]) (rest := []) ⟨hx, hb, hml, hown, hts⟩ (m_J0_init_3_F l D g H.size a) (cwI 4 hts (lw_meth q405) rfl rfl rfl (hts _ q80) (hts _ q403) (hts _ q404) rfl (by decide +kernel) ⟨Nat.le_of_ble_eq_true rfl, Nat.le_of_ble_eq_true rfl⟩) (b_preS hW hp1) rfl rfl hl.1 rfl (lv_room (Nat.le_of_ble_eq_true rfl)) dJ1_init_2_6 ⟨Nat.le_of_ble_eq_true rfl, Nat.le_of_ble_eq_true rfl⟩) hW hp1 (fun _ _ H locs hW => ?_)
  refine W.cs (cells' := 0) (slots' := 0) rfl rfl ?_
  have hW : bW D g A s H _ [[(a, .inr (12, [.null, .null, .null, .null, .null, .int 0, .int 0]))]] := hW
  exact b_vret hx hb hr hlk hE hW () rfl trivial rfl dJ1_init_2_9
abbrev rm_X12_init : Room := { frames := 3, cells := 0, slots := 0, locals := 72 }
set_option maxHeartbeats 4000000 in
set_option maxRecDepth 100000 in
theorem m_X12_init (l : Launch) (D : va_G) (g : Nat → ClassId) (sz : Nat) (a : Nat) (x1 : Int32) : bMet (S := Unit) l yX12_init (ws_ yX12_init cX12_init 2 none) rm_X12_init D g sz [.ref a, .int x1] [[(a, .inr (12, [.null, .null, .null, .null, .null, .int 0, .int 0]))]] (fun _ => True) (fun _ => none) (fun _ => [[(a, .inr (12, xRf x1))]]) := by
  refine b_met (by decide) (Nat.le_of_ble_eq_true rfl) ?_
  intro p e s m args below meth c A Q ls hx hb hml hr hlk hown hname hts hE hl hW
  revert hW; generalize s.heap = H; intro hW
  have hl : lv_has ls 2 [(0, .ref a), (1, .int x1)] := hl
  refine lv_aload_n hx hb dX12_init_0 rfl (lv_at hl 0 rfl) ?_
  refine lv_null hx hb dX12_init_1 ?_
  refine lv_null hx hb dX12_init_2 ?_
  refine lv_iconst (v := 0) hx hb dX12_init_3 (by decide) ?_
  refine lv_iconst (v := 0) hx hb dX12_init_4 (by decide) ?_
  have hp1 : List.Perm ([[(a, .inr (12, [.null, .null, .null, .null, .null, .int 0, .int 0]))]] : List va_W) ([[(a, .inr (12, [.null, .null, .null, .null, .null, .int 0, .int 0]))]] ++ []) := b_perm [0] [] 1 rfl rfl rfl rfl
  refine b_call (va_runI (As := [.null, .null, .int 0, .int 0]) (rest := []) ⟨hx, hb, hml, hown, hts⟩ (m_J1_init_2_F l D g H.size a) (cwI 4 hts (lw_meth q402) rfl rfl rfl (hts _ q81) (hts _ q984) (hts _ q401) rfl (by decide +kernel) ⟨Nat.le_of_ble_eq_true rfl, Nat.le_of_ble_eq_true rfl⟩) (b_preS hW hp1) rfl rfl hl.1 rfl (lv_room (Nat.le_of_ble_eq_true rfl)) dX12_init_5 ⟨Nat.le_of_ble_eq_true rfl, Nat.le_of_ble_eq_true rfl⟩) hW hp1 (fun _ _ H locs hW => ?_)
  refine W.cs (cells' := 0) (slots' := 0) rfl rfl ?_
  have hW : bW D g A s H _ [[(a, .inr (12, [.null, .null, .null, .null, .null, .int 0, .int 0]))]] := hW
  refine lv_aload_n hx hb dX12_init_8 rfl (lv_at hl 0 rfl) ?_
  refine lv_iload_n hx hb dX12_init_9 rfl (lv_at hl 1 rfl) ?_
  refine b_putF hx hb hts in_X12 tyX12 tyX12_ok nmX12 hown hW 0 0 12 6 rfl rfl rfl rfl rfl (by decide) ⟨rfl, rfl, rfl⟩ (hts _ q985) rfl hname rfl (ty := .int) rfl rfl rfl (Nat.le_of_ble_eq_true rfl) dX12_init_10 (fun H locs hW => ?_)
  have hW : bW D g A s H _ [[(a, .inr (12, [.null, .null, .null, .null, .null, .int 0, .int x1]))]] := hW
  exact b_vret hx hb hr hlk hE hW () rfl trivial rfl dX12_init_13
abbrev rm_X0_sortOf : Room := { frames := 0, cells := 0, slots := 0, locals := 0 }
set_option maxHeartbeats 4000000 in
theorem m_X0_sortOf (l : Launch) (D : va_G) (g : Nat → ClassId) (sz : Nat) (LR : List Nat) (so rn : Nat → Nat) (ri : Nat → Nat → Int32) (rl : Nat → Nat → Int64) (z : Nat) (hz : z ∈ LR) : bMet (S := Unit) l yX0_sortOf (ws_ yX0_sortOf cX0_sortOf 1 (some .int)) rm_X0_sortOf D g sz [.ref z] [pW g LR so rn ri rl] (fun _ => True) (fun _ => some (.int (rS (so z)))) (fun _ => [pW g LR so rn ri rl]) := by
  refine b_met (by decide) (Nat.le_of_ble_eq_true rfl) ?_
  intro p e s m args below meth c A Q ls hx hb hml hr hlk hown hname hts hE hl hW
  revert hW; generalize s.heap = H; intro hW
  have hl : lv_has ls 1 [(0, .ref z)] := hl
  refine lv_aload_n hx hb dX0_sortOf_0 rfl (lv_at hl 0 rfl) ?_
  rcases r5 (so z) with hk1 | hk1 | hk1 | hk1 | ⟨j, hk1⟩
  · skip
    refine b_rinY hx hb hown hW 0 rfl hz hk1 (hts _ q418) dX0_sortOf_1 ?_
    refine lv_if_eq (tgt := 9) hx hb dX0_sortOf_4 (by decide) (fun hc => absurd hc (by decide)) (fun hc => ?_)
    refine lv_iconst (v := 0) hx hb dX0_sortOf_7 (by decide) ?_
    exact b_iret hx hb hr hlk hE hW () rfl trivial (congrArg (fun k => some (Value.int (rS k))) hk1.symm) dX0_sortOf_8
  · skip
    refine b_rinN hx hb hown hW 0 rfl hz hk1 (hts _ q418) (b_castN hW.2.2.2.2.2 102 rfl) dX0_sortOf_1 ?_
    refine lv_if_eq (tgt := 9) hx hb dX0_sortOf_4 (by decide) (fun hc => ?_) (fun hc => absurd hc (by decide))
    refine lv_aload_n hx hb dX0_sortOf_9 rfl (lv_at hl 0 rfl) ?_
    refine b_rinY hx hb hown hW 0 rfl hz hk1 (hts _ q419) dX0_sortOf_10 ?_
    refine lv_if_eq (tgt := 18) hx hb dX0_sortOf_13 (by decide) (fun hc => absurd hc (by decide)) (fun hc => ?_)
    refine lv_iconst (v := 1) hx hb dX0_sortOf_16 (by decide) ?_
    exact b_iret hx hb hr hlk hE hW () rfl trivial (congrArg (fun k => some (Value.int (rS k))) hk1.symm) dX0_sortOf_17
  · skip
    refine b_rinN hx hb hown hW 0 rfl hz hk1 (hts _ q418) (b_castN hW.2.2.2.2.2 82 rfl) dX0_sortOf_1 ?_
    refine lv_if_eq (tgt := 9) hx hb dX0_sortOf_4 (by decide) (fun hc => ?_) (fun hc => absurd hc (by decide))
    refine lv_aload_n hx hb dX0_sortOf_9 rfl (lv_at hl 0 rfl) ?_
    refine b_rinN hx hb hown hW 0 rfl hz hk1 (hts _ q419) (b_castN hW.2.2.2.2.2 84 rfl) dX0_sortOf_10 ?_
    refine lv_if_eq (tgt := 18) hx hb dX0_sortOf_13 (by decide) (fun hc => ?_) (fun hc => absurd hc (by decide))
    refine lv_aload_n hx hb dX0_sortOf_18 rfl (lv_at hl 0 rfl) ?_
    refine b_rinY hx hb hown hW 0 rfl hz hk1 (hts _ q420) dX0_sortOf_19 ?_
    refine lv_if_eq (tgt := 27) hx hb dX0_sortOf_22 (by decide) (fun hc => absurd hc (by decide)) (fun hc => ?_)
    refine lv_iconst (v := 2) hx hb dX0_sortOf_25 (by decide) ?_
    exact b_iret hx hb hr hlk hE hW () rfl trivial (congrArg (fun k => some (Value.int (rS k))) hk1.symm) dX0_sortOf_26
  · skip
    refine b_rinN hx hb hown hW 0 rfl hz hk1 (hts _ q418) (b_castN hW.2.2.2.2.2 92 rfl) dX0_sortOf_1 ?_
    refine lv_if_eq (tgt := 9) hx hb dX0_sortOf_4 (by decide) (fun hc => ?_) (fun hc => absurd hc (by decide))
    refine lv_aload_n hx hb dX0_sortOf_9 rfl (lv_at hl 0 rfl) ?_
    refine b_rinN hx hb hown hW 0 rfl hz hk1 (hts _ q419) (b_castN hW.2.2.2.2.2 94 rfl) dX0_sortOf_10 ?_
    refine lv_if_eq (tgt := 18) hx hb dX0_sortOf_13 (by decide) (fun hc => ?_) (fun hc => absurd hc (by decide))
    refine lv_aload_n hx hb dX0_sortOf_18 rfl (lv_at hl 0 rfl) ?_
    refine b_rinN hx hb hown hW 0 rfl hz hk1 (hts _ q420) (b_castN hW.2.2.2.2.2 93 rfl) dX0_sortOf_19 ?_
    refine lv_if_eq (tgt := 27) hx hb dX0_sortOf_22 (by decide) (fun hc => ?_) (fun hc => absurd hc (by decide))
    refine lv_aload_n hx hb dX0_sortOf_27 rfl (lv_at hl 0 rfl) ?_
    refine b_rinY hx hb hown hW 0 rfl hz hk1 (hts _ q421) dX0_sortOf_28 ?_
    refine lv_if_eq (tgt := 38) hx hb dX0_sortOf_31 (by decide) (fun hc => absurd hc (by decide)) (fun hc => ?_)
    refine lv_iconst (v := 3) hx hb dX0_sortOf_34 (by decide) ?_
    refine lv_goto (tgt := 39) hx hb dX0_sortOf_35 (by decide) ?_
    exact b_iret hx hb hr hlk hE hW () rfl trivial (congrArg (fun k => some (Value.int (rS k))) hk1.symm) dX0_sortOf_39
  · skip
    refine b_rinN hx hb hown hW 0 rfl hz hk1 (hts _ q418) (b_castN hW.2.2.2.2.2 112 rfl) dX0_sortOf_1 ?_
    refine lv_if_eq (tgt := 9) hx hb dX0_sortOf_4 (by decide) (fun hc => ?_) (fun hc => absurd hc (by decide))
    refine lv_aload_n hx hb dX0_sortOf_9 rfl (lv_at hl 0 rfl) ?_
    refine b_rinN hx hb hown hW 0 rfl hz hk1 (hts _ q419) (b_castN hW.2.2.2.2.2 115 rfl) dX0_sortOf_10 ?_
    refine lv_if_eq (tgt := 18) hx hb dX0_sortOf_13 (by decide) (fun hc => ?_) (fun hc => absurd hc (by decide))
    refine lv_aload_n hx hb dX0_sortOf_18 rfl (lv_at hl 0 rfl) ?_
    refine b_rinN hx hb hown hW 0 rfl hz hk1 (hts _ q420) (b_castN hW.2.2.2.2.2 113 rfl) dX0_sortOf_19 ?_
    refine lv_if_eq (tgt := 27) hx hb dX0_sortOf_22 (by decide) (fun hc => ?_) (fun hc => absurd hc (by decide))
    refine lv_aload_n hx hb dX0_sortOf_27 rfl (lv_at hl 0 rfl) ?_
    refine b_rinN hx hb hown hW 0 rfl hz hk1 (hts _ q421) (b_castN hW.2.2.2.2.2 114 rfl) dX0_sortOf_28 ?_
    refine lv_if_eq (tgt := 38) hx hb dX0_sortOf_31 (by decide) (fun hc => ?_) (fun hc => absurd hc (by decide))
    refine lv_iconst (v := 4) hx hb dX0_sortOf_38 (by decide) ?_
    exact b_iret hx hb hr hlk hE hW () rfl trivial (congrArg (fun k => some (Value.int (rS k))) hk1.symm) dX0_sortOf_39
def rQ (x : Int32) : Nat := if x = 0 then 0 else if x = 1 then 1 else if x = 2 then 2 else if x = 3 then 3 else 4
abbrev rm_X0_rowOf : Room := { frames := 9, cells := 3, slots := 54, locals := 10300 }
set_option maxHeartbeats 4000000 in
theorem m_X0_rowOf (l : Launch) (hst : l.stackTraces = false) (D : va_G) (g : Nat → ClassId) (sz : Nat) (x1 x2 : Int32) (h40 : x2 ≤ 40) : bxMet (S := Nat) (SX := Unit) l yX0_rowOf (ws_ yX0_rowOf cX0_rowOf 2 (some (.object "java/lang/Object"))) rm_X0_rowOf D g sz [.int x1, .int x2] [] (fun _ => ¬ x2 < 0) (fun z => some (.ref z)) (fun z => [[(z, rE g (rQ x1) (ix x2) (fun _ => 0) (fun _ => 0))]]) (fun E _ _ => E = "java/lang/NegativeArraySizeException" ∧ x2 < 0) (fun _ => []) := by
  refine b_metX (by decide) (Nat.le_of_ble_eq_true rfl) ?_
  intro p e s m args below meth c A Q ls hx hb hml hr hlk hown hname hts hno hE hl hW
  revert hW; generalize s.heap = H; intro hW
  have hl : lv_has ls 2 [(0, .int x1), (1, .int x2)] := hl
  have hix : ix x2 ≤ 40 := by have h1 := Int32.le_iff_toInt_le.mp h40; have h2 : (40 : Int32).toInt = 40 := rfl; rw [h2] at h1; show x2.toInt.toNat ≤ 40; omega
  refine lv_iload_n hx hb dX0_rowOf_0 rfl (lv_at hl 0 rfl) ?_
  by_cases c0 : x1 = 0
  · have hq : rQ x1 = 0 := by rw [c0]; rfl
    refine lv_tableIn (off := 31) (tgt := 32) hx hb dX0_rowOf_1 (by rw [c0]; decide) (by rw [c0]; decide) (by rw [c0]; rfl) (by decide) ?_
    refine lv_iload_n hx hb dX0_rowOf_32 rfl (lv_at hl 1 rfl) ?_
    by_cases hneg : x2 < 0
    · exact vx_newarrayZ hx hb hneg dX0_rowOf_33 (fun tx htx => b_thN hx hst hts hW (hl.1.trans hml.symm) hlk hneg htx ⟨Nat.le_of_ble_eq_true rfl, Nat.le_of_ble_eq_true rfl⟩ (Nat.le_of_ble_eq_true rfl) ⟨Nat.le_of_ble_eq_true rfl, Nat.le_of_ble_eq_true rfl⟩ (fun H q ce hW hcell hcv hcl => b_outX hE hlk hno hW () rfl hcell hcv hcl ⟨rfl, hneg⟩ (Nat.le_of_ble_eq_true rfl) (Nat.le_of_ble_eq_true rfl)))
    · refine b_newa (atype := .byte) hx hb (hts _ q336) (ty := .byte) rfl hW 2 rfl (N' := ix x2) (a0 := (ix x2, .inl (fun _ => 0))) (fun cA => rfl) hneg rfl (by show ix x2 * _ ≤ _; simp only [componentBytes]; omega) (Nat.le_of_ble_eq_true rfl) (by show 0 + ix x2 ≤ 54; omega) dX0_rowOf_33 (fun z H hW => ?_)
      refine b_toQ hE (fun Q hE => ?_)
      refine W.widen (k := 3) (n := 54) (by decide) (by show 0 + ix x2 ≤ 54; omega) ?_
      exact b_aret hx hb hr (Or.inl ⟨_, rfl⟩) hlk hE hW z (by rw [hq]; rfl) hneg (Or.inr ⟨_, rfl⟩) rfl dX0_rowOf_35
  by_cases c1 : x1 = 1
  · have hq : rQ x1 = 1 := by rw [c1]; rfl
    refine lv_tableIn (off := 35) (tgt := 36) hx hb dX0_rowOf_1 (by rw [c1]; decide) (by rw [c1]; decide) (by rw [c1]; rfl) (by decide) ?_
    refine lv_iload_n hx hb dX0_rowOf_36 rfl (lv_at hl 1 rfl) ?_
    by_cases hneg : x2 < 0
    · exact vx_newarrayZ hx hb hneg dX0_rowOf_37 (fun tx htx => b_thN hx hst hts hW (hl.1.trans hml.symm) hlk hneg htx ⟨Nat.le_of_ble_eq_true rfl, Nat.le_of_ble_eq_true rfl⟩ (Nat.le_of_ble_eq_true rfl) ⟨Nat.le_of_ble_eq_true rfl, Nat.le_of_ble_eq_true rfl⟩ (fun H q ce hW hcell hcv hcl => b_outX hE hlk hno hW () rfl hcell hcv hcl ⟨rfl, hneg⟩ (Nat.le_of_ble_eq_true rfl) (Nat.le_of_ble_eq_true rfl)))
    · refine b_newa (atype := .short) hx hb (hts _ q354) (ty := .short) rfl hW 3 rfl (N' := ix x2) (a0 := (ix x2, .inl (fun _ => 0))) (fun cA => rfl) hneg rfl (by show ix x2 * _ ≤ _; simp only [componentBytes]; omega) (Nat.le_of_ble_eq_true rfl) (by show 0 + ix x2 ≤ 54; omega) dX0_rowOf_37 (fun z H hW => ?_)
      refine b_toQ hE (fun Q hE => ?_)
      refine W.widen (k := 3) (n := 54) (by decide) (by show 0 + ix x2 ≤ 54; omega) ?_
      exact b_aret hx hb hr (Or.inl ⟨_, rfl⟩) hlk hE hW z (by rw [hq]; rfl) hneg (Or.inr ⟨_, rfl⟩) rfl dX0_rowOf_39
  by_cases c2 : x1 = 2
  · have hq : rQ x1 = 2 := by rw [c2]; rfl
    refine lv_tableIn (off := 39) (tgt := 40) hx hb dX0_rowOf_1 (by rw [c2]; decide) (by rw [c2]; decide) (by rw [c2]; rfl) (by decide) ?_
    refine lv_iload_n hx hb dX0_rowOf_40 rfl (lv_at hl 1 rfl) ?_
    by_cases hneg : x2 < 0
    · exact vx_newarrayZ hx hb hneg dX0_rowOf_41 (fun tx htx => b_thN hx hst hts hW (hl.1.trans hml.symm) hlk hneg htx ⟨Nat.le_of_ble_eq_true rfl, Nat.le_of_ble_eq_true rfl⟩ (Nat.le_of_ble_eq_true rfl) ⟨Nat.le_of_ble_eq_true rfl, Nat.le_of_ble_eq_true rfl⟩ (fun H q ce hW hcell hcv hcl => b_outX hE hlk hno hW () rfl hcell hcv hcl ⟨rfl, hneg⟩ (Nat.le_of_ble_eq_true rfl) (Nat.le_of_ble_eq_true rfl)))
    · refine b_newa (atype := .int) hx hb (hts _ q214) (ty := .int) rfl hW 0 rfl (N' := ix x2) (a0 := (ix x2, .inl (fun _ => 0))) (fun cA => rfl) hneg rfl (by show ix x2 * _ ≤ _; simp only [componentBytes]; omega) (Nat.le_of_ble_eq_true rfl) (by show 0 + ix x2 ≤ 54; omega) dX0_rowOf_41 (fun z H hW => ?_)
      refine b_toQ hE (fun Q hE => ?_)
      refine W.widen (k := 3) (n := 54) (by decide) (by show 0 + ix x2 ≤ 54; omega) ?_
      exact b_aret hx hb hr (Or.inl ⟨_, rfl⟩) hlk hE hW z (by rw [hq]; rfl) hneg (Or.inr ⟨_, rfl⟩) rfl dX0_rowOf_43
  by_cases c3 : x1 = 3
  · have hq : rQ x1 = 3 := by rw [c3]; rfl
    refine lv_tableIn (off := 43) (tgt := 44) hx hb dX0_rowOf_1 (by rw [c3]; decide) (by rw [c3]; decide) (by rw [c3]; rfl) (by decide) ?_
    refine lv_iload_n hx hb dX0_rowOf_44 rfl (lv_at hl 1 rfl) ?_
    by_cases hneg : x2 < 0
    · exact vx_newarrayZ hx hb hneg dX0_rowOf_45 (fun tx htx => b_thN hx hst hts hW (hl.1.trans hml.symm) hlk hneg htx ⟨Nat.le_of_ble_eq_true rfl, Nat.le_of_ble_eq_true rfl⟩ (Nat.le_of_ble_eq_true rfl) ⟨Nat.le_of_ble_eq_true rfl, Nat.le_of_ble_eq_true rfl⟩ (fun H q ce hW hcell hcv hcl => b_outX hE hlk hno hW () rfl hcell hcv hcl ⟨rfl, hneg⟩ (Nat.le_of_ble_eq_true rfl) (Nat.le_of_ble_eq_true rfl)))
    · refine b_newa (atype := .long) hx hb (hts _ q355) (ty := .long) rfl hW 1 rfl (N' := ix x2) (a0 := (ix x2, .inr (.inl (fun _ => 0)))) (fun cA => rfl) hneg rfl (by show ix x2 * _ ≤ _; simp only [componentBytes]; omega) (Nat.le_of_ble_eq_true rfl) (by show 0 + ix x2 ≤ 54; omega) dX0_rowOf_45 (fun z H hW => ?_)
      refine b_toQ hE (fun Q hE => ?_)
      refine W.widen (k := 3) (n := 54) (by decide) (by show 0 + ix x2 ≤ 54; omega) ?_
      exact b_aret hx hb hr (Or.inl ⟨_, rfl⟩) hlk hE hW z (by rw [hq]; rfl) hneg (Or.inr ⟨_, rfl⟩) rfl dX0_rowOf_47
  have hq : rQ x1 = 4 := by simp [rQ, c0, c1, c2, c3]
  refine lv_tableOut (tgt := 48) hx hb dX0_rowOf_1 (by have := lv_neT c0 (a := 0) (by decide); have := lv_neT c1 (a := 1) (by decide); have := lv_neT c2 (a := 2) (by decide); have := lv_neT c3 (a := 3) (by decide); omega) (by decide) ?_
  refine lv_iload_n hx hb dX0_rowOf_48 rfl (lv_at hl 1 rfl) ?_
  by_cases hneg : x2 < 0
  · exact vx_newarrayZ hx hb hneg dX0_rowOf_49 (fun tx htx => b_thN hx hst hts hW (hl.1.trans hml.symm) hlk hneg htx ⟨Nat.le_of_ble_eq_true rfl, Nat.le_of_ble_eq_true rfl⟩ (Nat.le_of_ble_eq_true rfl) ⟨Nat.le_of_ble_eq_true rfl, Nat.le_of_ble_eq_true rfl⟩ (fun H q ce hW hcell hcv hcl => b_outX hE hlk hno hW () rfl hcell hcv hcl ⟨rfl, hneg⟩ (Nat.le_of_ble_eq_true rfl) (Nat.le_of_ble_eq_true rfl)))
  · refine b_newa (atype := .boolean) hx hb (hts _ q356) (ty := .boolean) rfl hW 4 rfl (N' := ix x2) (a0 := (ix x2, .inl (fun _ => 0))) (fun cA => rfl) hneg rfl (by show ix x2 * _ ≤ _; simp only [componentBytes]; omega) (Nat.le_of_ble_eq_true rfl) (by show 0 + ix x2 ≤ 54; omega) dX0_rowOf_49 (fun z H hW => ?_)
    refine b_toQ hE (fun Q hE => ?_)
    refine W.widen (k := 3) (n := 54) (by decide) (by show 0 + ix x2 ≤ 54; omega) ?_
    exact b_aret hx hb hr (Or.inl ⟨_, rfl⟩) hlk hE hW z (by rw [hq]; rfl) hneg (Or.inr ⟨_, rfl⟩) rfl dX0_rowOf_51
def f_X0_elementOf (LR : List Nat) (so : Nat → Nat) (rn : Nat → Nat) (ri : Nat → Nat → Int32) (rl : Nat → Nat → Int64) (x1 : Nat) (x2 : Int32) (post : Int64 → Prop) (postX : Prop) : Prop :=
 q_k5 (so x1)
 ((if inB x2 (rn x1) = true then
 post ((ri x1 (ix x2)).toInt64)
 else q_ck (decide (rn x1 < 2147483648)) (postX)))
 ((if inB x2 (rn x1) = true then
 post ((ri x1 (ix x2)).toInt64)
 else q_ck (decide (rn x1 < 2147483648)) (postX)))
 ((if inB x2 (rn x1) = true then
 post ((ri x1 (ix x2)).toInt64)
 else q_ck (decide (rn x1 < 2147483648)) (postX)))
 ((if inB x2 (rn x1) = true then
 post (rl x1 (ix x2))
 else q_ck (decide (rn x1 < 2147483648)) (postX)))
 ((if inB x2 (rn x1) = true then
 (if (ri x1 (ix x2)) = 0 then
 post 0
 else
 post 1)
 else q_ck (decide (rn x1 < 2147483648)) (postX)))
abbrev rm_X0_elementOf : Room := { frames := 9, cells := 3, slots := 222, locals := 10300 }
set_option maxHeartbeats 4000000 in
set_option maxRecDepth 100000 in
theorem m_X0_elementOf (l : Launch) (hst : l.stackTraces = false) (D : va_G) (g : Nat → ClassId) (sz : Nat)  (LR : List Nat) (so : Nat → Nat) (rn : Nat → Nat) (ri : Nat → Nat → Int32) (rl : Nat → Nat → Int64) (x1 : Nat) (x2 : Int32) (post : Int64 → Prop) (postX : Prop) (hx1 : x1 ∈ LR) (hf : f_X0_elementOf LR so rn ri rl x1 x2 post postX) : bxMet (S := Int64) (SX := Unit) l yX0_elementOf (ws_ yX0_elementOf cX0_elementOf 2 (some .long)) rm_X0_elementOf D g sz [.ref x1, .int x2] [pW g LR so rn ri rl] (fun u => post u) (fun u => some (.long u)) (fun u => [pW g LR so rn ri rl]) (fun E _ _ => E = "java/lang/ArrayIndexOutOfBoundsException" ∧ postX) (fun _ => [pW g LR so rn ri rl]) := by
  refine b_metX (by decide) (Nat.le_of_ble_eq_true rfl) ?_
  intro p e s m args below meth c A Q ls hx hb hml hr hlk hown hname hts hno hE hl hW
  revert hW; generalize s.heap = H; intro hW
  have hl : lv_has ls 2 [(0, .ref x1), (1, .int x2)] := hl
  rw [f_X0_elementOf] at hf
  refine lv_aload_n hx hb dX0_elementOf_0 rfl (lv_at hl 0 rfl) ?_
  have hp1 : List.Perm ([pW g LR so rn ri rl] : List va_W) ([pW g LR so rn ri rl] ++ []) := b_perm [0] [] 1 rfl rfl rfl rfl
  refine b_call0 ⟨rfl, rfl⟩ (va_runS (As := [.ref x1]) (rest := []) ⟨hx, hb, hml, hown, hts⟩ (m_X0_sortOf l D g H.size LR so rn ri rl x1 hx1) (va_cwS 1 hts (lw_S q415 q416 q76 q417) rfl rfl rfl (by decide +kernel) ⟨Nat.le_of_ble_eq_true rfl, Nat.le_of_ble_eq_true rfl⟩) (b_preS hW hp1) rfl rfl hl.1 rfl (lv_room (Nat.le_of_ble_eq_true rfl)) dX0_elementOf_1 ⟨Nat.le_of_ble_eq_true rfl, Nat.le_of_ble_eq_true rfl⟩) hW hp1 (fun _ _ H locs hW => ?_)
  have hW : bW D g A s H locs [pW g LR so rn ri rl] := hW
  rcases r5 (so x1) with hk2 | hk2 | hk2 | hk2 | ⟨j, hk2⟩
  · have hf := q_k5_0 hf hk2
    refine b_topi (y := 0) (congrArg rS hk2) ?_
    refine lv_tableIn (off := 32) (tgt := 36) hx hb dX0_elementOf_4 (by decide) (by decide) rfl (by decide) ?_
    refine lv_aload_n hx hb dX0_elementOf_36 rfl (lv_at hl 0 rfl) ?_
    refine b_rcast hx hb hown hW 0 rfl hx1 hk2 (hts _ q418) dX0_elementOf_37 ?_
    refine lv_iload_n hx hb dX0_elementOf_40 rfl (lv_at hl 1 rfl) ?_
    by_cases hin3 : inB x2 (rn x1) = true
    · have hf := q_t hf hin3
      refine b_rBld hx hb hW 0 rfl hx1 hk2 hin3 dX0_elementOf_41 ?_
      refine lv_i2l hx hb dX0_elementOf_42 rfl ?_
      refine b_toQ hE (fun Q hE => ?_)
      refine W.widen (k := 3) (n := 222) (by decide) (by decide) ?_
      exact b_lret hx hb hr hlk hE hW ((ri x1 (ix x2)).toInt64) rfl hf rfl dX0_elementOf_43
    · have hf := q_f hf hin3
      obtain ⟨hn4, hf⟩ := q_cs hf
      refine b_rBldZ hx hb hW 0 rfl hx1 hk2 hin3 dX0_elementOf_41 (fun tx htx => b_thA hx hst hts hW (hl.1.trans hml.symm) hlk (of_decide_eq_true hn4) htx ⟨Nat.le_of_ble_eq_true rfl, Nat.le_of_ble_eq_true rfl⟩ (Nat.le_of_ble_eq_true rfl) ⟨Nat.le_of_ble_eq_true rfl, Nat.le_of_ble_eq_true rfl⟩ (fun H q4 ce4 hW hcell hcv hcl => ?_))
      exact b_outX hE hlk hno hW () rfl hcell hcv hcl ⟨rfl, hf⟩ (Nat.le_of_ble_eq_true rfl) (Nat.le_of_ble_eq_true rfl)
  · have hf := q_k5_1 hf hk2
    refine b_topi (y := 1) (congrArg rS hk2) ?_
    refine lv_tableIn (off := 40) (tgt := 44) hx hb dX0_elementOf_4 (by decide) (by decide) rfl (by decide) ?_
    refine lv_aload_n hx hb dX0_elementOf_44 rfl (lv_at hl 0 rfl) ?_
    refine b_rcast hx hb hown hW 0 rfl hx1 hk2 (hts _ q419) dX0_elementOf_45 ?_
    refine lv_iload_n hx hb dX0_elementOf_48 rfl (lv_at hl 1 rfl) ?_
    by_cases hin5 : inB x2 (rn x1) = true
    · have hf := q_t hf hin5
      refine b_rSld hx hb hW 0 rfl hx1 hk2 hin5 dX0_elementOf_49 ?_
      refine lv_i2l hx hb dX0_elementOf_50 rfl ?_
      refine b_toQ hE (fun Q hE => ?_)
      refine W.widen (k := 3) (n := 222) (by decide) (by decide) ?_
      exact b_lret hx hb hr hlk hE hW ((ri x1 (ix x2)).toInt64) rfl hf rfl dX0_elementOf_51
    · have hf := q_f hf hin5
      obtain ⟨hn6, hf⟩ := q_cs hf
      refine b_rSldZ hx hb hW 0 rfl hx1 hk2 hin5 dX0_elementOf_49 (fun tx htx => b_thA hx hst hts hW (hl.1.trans hml.symm) hlk (of_decide_eq_true hn6) htx ⟨Nat.le_of_ble_eq_true rfl, Nat.le_of_ble_eq_true rfl⟩ (Nat.le_of_ble_eq_true rfl) ⟨Nat.le_of_ble_eq_true rfl, Nat.le_of_ble_eq_true rfl⟩ (fun H q6 ce6 hW hcell hcv hcl => ?_))
      exact b_outX hE hlk hno hW () rfl hcell hcv hcl ⟨rfl, hf⟩ (Nat.le_of_ble_eq_true rfl) (Nat.le_of_ble_eq_true rfl)
  · have hf := q_k5_2 hf hk2
    refine b_topi (y := 2) (congrArg rS hk2) ?_
    refine lv_tableIn (off := 48) (tgt := 52) hx hb dX0_elementOf_4 (by decide) (by decide) rfl (by decide) ?_
    refine lv_aload_n hx hb dX0_elementOf_52 rfl (lv_at hl 0 rfl) ?_
    refine b_rcast hx hb hown hW 0 rfl hx1 hk2 (hts _ q420) dX0_elementOf_53 ?_
    refine lv_iload_n hx hb dX0_elementOf_56 rfl (lv_at hl 1 rfl) ?_
    by_cases hin7 : inB x2 (rn x1) = true
    · have hf := q_t hf hin7
      refine b_rIld hx hb hW 0 rfl hx1 hk2 hin7 dX0_elementOf_57 ?_
      refine lv_i2l hx hb dX0_elementOf_58 rfl ?_
      refine b_toQ hE (fun Q hE => ?_)
      refine W.widen (k := 3) (n := 222) (by decide) (by decide) ?_
      exact b_lret hx hb hr hlk hE hW ((ri x1 (ix x2)).toInt64) rfl hf rfl dX0_elementOf_59
    · have hf := q_f hf hin7
      obtain ⟨hn8, hf⟩ := q_cs hf
      refine b_rIldZ hx hb hW 0 rfl hx1 hk2 hin7 dX0_elementOf_57 (fun tx htx => b_thA hx hst hts hW (hl.1.trans hml.symm) hlk (of_decide_eq_true hn8) htx ⟨Nat.le_of_ble_eq_true rfl, Nat.le_of_ble_eq_true rfl⟩ (Nat.le_of_ble_eq_true rfl) ⟨Nat.le_of_ble_eq_true rfl, Nat.le_of_ble_eq_true rfl⟩ (fun H q8 ce8 hW hcell hcv hcl => ?_))
      exact b_outX hE hlk hno hW () rfl hcell hcv hcl ⟨rfl, hf⟩ (Nat.le_of_ble_eq_true rfl) (Nat.le_of_ble_eq_true rfl)
  · have hf := q_k5_3 hf hk2
    refine b_topi (y := 3) (congrArg rS hk2) ?_
    refine lv_tableIn (off := 56) (tgt := 60) hx hb dX0_elementOf_4 (by decide) (by decide) rfl (by decide) ?_
    refine lv_aload_n hx hb dX0_elementOf_60 rfl (lv_at hl 0 rfl) ?_
    refine b_rcast hx hb hown hW 0 rfl hx1 hk2 (hts _ q421) dX0_elementOf_61 ?_
    refine lv_iload_n hx hb dX0_elementOf_64 rfl (lv_at hl 1 rfl) ?_
    by_cases hin9 : inB x2 (rn x1) = true
    · have hf := q_t hf hin9
      refine b_rLld hx hb hW 0 rfl hx1 hk2 hin9 dX0_elementOf_65 ?_
      refine b_toQ hE (fun Q hE => ?_)
      refine W.widen (k := 3) (n := 222) (by decide) (by decide) ?_
      exact b_lret hx hb hr hlk hE hW (rl x1 (ix x2)) rfl hf rfl dX0_elementOf_66
    · have hf := q_f hf hin9
      obtain ⟨hn10, hf⟩ := q_cs hf
      refine b_rLldZ hx hb hW 0 rfl hx1 hk2 hin9 dX0_elementOf_65 (fun tx htx => b_thA hx hst hts hW (hl.1.trans hml.symm) hlk (of_decide_eq_true hn10) htx ⟨Nat.le_of_ble_eq_true rfl, Nat.le_of_ble_eq_true rfl⟩ (Nat.le_of_ble_eq_true rfl) ⟨Nat.le_of_ble_eq_true rfl, Nat.le_of_ble_eq_true rfl⟩ (fun H q10 ce10 hW hcell hcv hcl => ?_))
      exact b_outX hE hlk hno hW () rfl hcell hcv hcl ⟨rfl, hf⟩ (Nat.le_of_ble_eq_true rfl) (Nat.le_of_ble_eq_true rfl)
  · have hf := q_k5_4 hf hk2
    refine b_topi (y := 4) (congrArg rS hk2) ?_
    refine lv_tableOut (tgt := 67) hx hb dX0_elementOf_4 (by decide) (by decide) ?_
    refine lv_aload_n hx hb dX0_elementOf_67 rfl (lv_at hl 0 rfl) ?_
    refine b_rcast hx hb hown hW 0 rfl hx1 hk2 (hts _ q422) dX0_elementOf_68 ?_
    refine lv_iload_n hx hb dX0_elementOf_71 rfl (lv_at hl 1 rfl) ?_
    by_cases hin11 : inB x2 (rn x1) = true
    · have hf := q_t hf hin11
      refine b_rZld hx hb hW 0 rfl hx1 hk2 hin11 dX0_elementOf_72 ?_
      refine lv_if_eq (tgt := 80) hx hb dX0_elementOf_73 (by decide) (fun c12 => ?_) (fun c12 => ?_)
      · have hf := q_t hf c12
        refine lv_lconst (v := 0) hx hb dX0_elementOf_80 (by decide) ?_
        refine b_toQ hE (fun Q hE => ?_)
        refine W.widen (k := 3) (n := 222) (by decide) (by decide) ?_
        exact b_lret hx hb hr hlk hE hW 0 rfl hf rfl dX0_elementOf_81
      · have hf := q_f hf c12
        refine lv_lconst (v := 1) hx hb dX0_elementOf_76 (by decide) ?_
        refine lv_goto (tgt := 81) hx hb dX0_elementOf_77 (by decide) ?_
        refine b_toQ hE (fun Q hE => ?_)
        refine W.widen (k := 3) (n := 222) (by decide) (by decide) ?_
        exact b_lret hx hb hr hlk hE hW 1 rfl hf rfl dX0_elementOf_81
    · have hf := q_f hf hin11
      obtain ⟨hn13, hf⟩ := q_cs hf
      refine b_rZldZ hx hb hW 0 rfl hx1 hk2 hin11 dX0_elementOf_72 (fun tx htx => b_thA hx hst hts hW (hl.1.trans hml.symm) hlk (of_decide_eq_true hn13) htx ⟨Nat.le_of_ble_eq_true rfl, Nat.le_of_ble_eq_true rfl⟩ (Nat.le_of_ble_eq_true rfl) ⟨Nat.le_of_ble_eq_true rfl, Nat.le_of_ble_eq_true rfl⟩ (fun H q13 ce13 hW hcell hcv hcl => ?_))
      exact b_outX hE hlk hno hW () rfl hcell hcv hcl ⟨rfl, hf⟩ (Nat.le_of_ble_eq_true rfl) (Nat.le_of_ble_eq_true rfl)
def f_X0_puts (LR : List Nat) (so : Nat → Nat) (rn : Nat → Nat) (ri : Nat → Nat → Int32) (rl : Nat → Nat → Int64) (x1 : Nat) (x2 : Int32) (x3 : Int64) (post : List Nat → (Nat → Nat) → (Nat → Nat) → (Nat → Nat → Int32) → (Nat → Nat → Int64) → Prop) (postX : List Nat → (Nat → Nat) → (Nat → Nat) → (Nat → Nat → Int32) → (Nat → Nat → Int64) → Prop) : Prop :=
 q_k5 (so x1)
 (q_lt (x3.toInt32.toInt8.toInt32) fun (v3 : Int32) =>
 (if inB x2 (rn x1) = true then
 q_lt (fun a => if a = x1 then upd (ri x1) (ix x2) (vp_nar .byte v3) else ri a) fun (ri5 : Nat → Nat → Int32) =>
 post LR so rn ri5 rl
 else q_ck (decide (rn x1 < 2147483648)) (postX LR so rn ri rl)))
 (q_lt (x3.toInt32.toInt16.toInt32) fun (v7 : Int32) =>
 (if inB x2 (rn x1) = true then
 q_lt (fun a => if a = x1 then upd (ri x1) (ix x2) (vp_nar .short v7) else ri a) fun (ri9 : Nat → Nat → Int32) =>
 post LR so rn ri9 rl
 else q_ck (decide (rn x1 < 2147483648)) (postX LR so rn ri rl)))
 (q_lt (x3.toInt32) fun (v11 : Int32) =>
 (if inB x2 (rn x1) = true then
 q_lt (fun a => if a = x1 then upd (ri x1) (ix x2) v11 else ri a) fun (ri13 : Nat → Nat → Int32) =>
 post LR so rn ri13 rl
 else q_ck (decide (rn x1 < 2147483648)) (postX LR so rn ri rl)))
 ((if inB x2 (rn x1) = true then
 q_lt (fun a => if a = x1 then vp_updL (rl x1) (ix x2) x3 else rl a) fun (rl16 : Nat → Nat → Int64) =>
 post LR so rn ri rl16
 else q_ck (decide (rn x1 < 2147483648)) (postX LR so rn ri rl)))
 ((if (lg_cmp x3 0) = 0 then
 (if inB x2 (rn x1) = true then
 q_lt (fun a => if a = x1 then upd (ri x1) (ix x2) (vp_nar .boolean 0) else ri a) fun (ri20 : Nat → Nat → Int32) =>
 post LR so rn ri20 rl
 else q_ck (decide (rn x1 < 2147483648)) (postX LR so rn ri rl))
 else
 (if inB x2 (rn x1) = true then
 q_lt (fun a => if a = x1 then upd (ri x1) (ix x2) (vp_nar .boolean 1) else ri a) fun (ri23 : Nat → Nat → Int32) =>
 post LR so rn ri23 rl
 else q_ck (decide (rn x1 < 2147483648)) (postX LR so rn ri rl))))
abbrev rm_X0_puts : Room := { frames := 9, cells := 3, slots := 222, locals := 10300 }
set_option maxHeartbeats 4000000 in
set_option maxRecDepth 100000 in
theorem m_X0_puts (l : Launch) (hst : l.stackTraces = false) (D : va_G) (g : Nat → ClassId) (sz : Nat)  (LR : List Nat) (so : Nat → Nat) (rn : Nat → Nat) (ri : Nat → Nat → Int32) (rl : Nat → Nat → Int64) (x1 : Nat) (x2 : Int32) (x3 : Int64) (post : List Nat → (Nat → Nat) → (Nat → Nat) → (Nat → Nat → Int32) → (Nat → Nat → Int64) → Prop) (postX : List Nat → (Nat → Nat) → (Nat → Nat) → (Nat → Nat → Int32) → (Nat → Nat → Int64) → Prop) (hx1 : x1 ∈ LR) (hf : f_X0_puts LR so rn ri rl x1 x2 x3 post postX) : bxMet (S := List Nat × (Nat → Nat) × (Nat → Nat) × (Nat → Nat → Int32) × (Nat → Nat → Int64)) (SX := List Nat × (Nat → Nat) × (Nat → Nat) × (Nat → Nat → Int32) × (Nat → Nat → Int64)) l yX0_puts (ws_ yX0_puts cX0_puts 4 none) rm_X0_puts D g sz [.ref x1, .int x2, .long x3] [pW g LR so rn ri rl] (fun u => post u.1 u.2.1 u.2.2.1 u.2.2.2.1 u.2.2.2.2) (fun u => none) (fun u => [pW g u.1 u.2.1 u.2.2.1 u.2.2.2.1 u.2.2.2.2]) (fun E _ u => E = "java/lang/ArrayIndexOutOfBoundsException" ∧ postX u.1 u.2.1 u.2.2.1 u.2.2.2.1 u.2.2.2.2) (fun u => [pW g u.1 u.2.1 u.2.2.1 u.2.2.2.1 u.2.2.2.2]) := by
  refine b_metX (by decide) (Nat.le_of_ble_eq_true rfl) ?_
  intro p e s m args below meth c A Q ls hx hb hml hr hlk hown hname hts hno hE hl hW
  revert hW; generalize s.heap = H; intro hW
  have hl : lv_has ls 4 [(0, .ref x1), (1, .int x2), (2, .long x3)] := hl
  rw [f_X0_puts] at hf
  refine lv_aload_n hx hb dX0_puts_0 rfl (lv_at hl 0 rfl) ?_
  have hp1 : List.Perm ([pW g LR so rn ri rl] : List va_W) ([pW g LR so rn ri rl] ++ []) := b_perm [0] [] 1 rfl rfl rfl rfl
  refine b_call0 ⟨rfl, rfl⟩ (va_runS (As := [.ref x1]) (rest := []) ⟨hx, hb, hml, hown, hts⟩ (m_X0_sortOf l D g H.size LR so rn ri rl x1 hx1) (va_cwS 1 hts (lw_S q415 q416 q76 q417) rfl rfl rfl (by decide +kernel) ⟨Nat.le_of_ble_eq_true rfl, Nat.le_of_ble_eq_true rfl⟩) (b_preS hW hp1) rfl rfl hl.1 rfl (lv_room (Nat.le_of_ble_eq_true rfl)) dX0_puts_1 ⟨Nat.le_of_ble_eq_true rfl, Nat.le_of_ble_eq_true rfl⟩) hW hp1 (fun _ _ H locs hW => ?_)
  have hW : bW D g A s H locs [pW g LR so rn ri rl] := hW
  rcases r5 (so x1) with hk2 | hk2 | hk2 | hk2 | ⟨j, hk2⟩
  · have hf := q_k5_0 hf hk2
    refine b_topi (y := 0) (congrArg rS hk2) ?_
    refine lv_tableIn (off := 32) (tgt := 36) hx hb dX0_puts_4 (by decide) (by decide) rfl (by decide) ?_
    refine lv_aload_n hx hb dX0_puts_36 rfl (lv_at hl 0 rfl) ?_
    refine b_rcast hx hb hown hW 0 rfl hx1 hk2 (hts _ q418) dX0_puts_37 ?_
    refine lv_iload_n hx hb dX0_puts_40 rfl (lv_at hl 1 rfl) ?_
    refine lv_lload_n hx hb dX0_puts_41 rfl (lv_at hl 2 rfl) ?_
    refine lv_l2i hx hb dX0_puts_42 rfl ?_
    refine lv_i2b hx hb dX0_puts_43 rfl ?_
    obtain ⟨v3, ev3, hf⟩ := q_ls hf
    refine b_topi ev3 ?_
    by_cases hin4 : inB x2 (rn x1) = true
    · have hf := q_t hf hin4
      obtain ⟨ri5, eri5, hf⟩ := q_ls hf
      refine b_rBst hx hb hW 0 rfl hx1 hk2 (Bs' := [pW g LR so rn ri5 rl]) (by subst eri5; rfl) hin4 dX0_puts_44 (fun H locs hW => ?_)
      refine lv_goto (tgt := 98) hx hb dX0_puts_45 (by decide) ?_
      refine b_toQ hE (fun Q hE => ?_)
      refine W.widen (k := 3) (n := 222) (by decide) (by decide) ?_
      exact b_vret hx hb hr hlk hE hW (LR, so, rn, ri5, rl) rfl hf rfl dX0_puts_98
    · have hf := q_f hf hin4
      obtain ⟨hn6, hf⟩ := q_cs hf
      refine b_rBstZ hx hb hW 0 rfl hx1 hk2 hin4 dX0_puts_44 (fun tx htx => b_thA hx hst hts hW (hl.1.trans hml.symm) hlk (of_decide_eq_true hn6) htx ⟨Nat.le_of_ble_eq_true rfl, Nat.le_of_ble_eq_true rfl⟩ (Nat.le_of_ble_eq_true rfl) ⟨Nat.le_of_ble_eq_true rfl, Nat.le_of_ble_eq_true rfl⟩ (fun H q6 ce6 hW hcell hcv hcl => ?_))
      exact b_outX hE hlk hno hW (LR, so, rn, ri, rl) rfl hcell hcv hcl ⟨rfl, hf⟩ (Nat.le_of_ble_eq_true rfl) (Nat.le_of_ble_eq_true rfl)
  · have hf := q_k5_1 hf hk2
    refine b_topi (y := 1) (congrArg rS hk2) ?_
    refine lv_tableIn (off := 44) (tgt := 48) hx hb dX0_puts_4 (by decide) (by decide) rfl (by decide) ?_
    refine lv_aload_n hx hb dX0_puts_48 rfl (lv_at hl 0 rfl) ?_
    refine b_rcast hx hb hown hW 0 rfl hx1 hk2 (hts _ q419) dX0_puts_49 ?_
    refine lv_iload_n hx hb dX0_puts_52 rfl (lv_at hl 1 rfl) ?_
    refine lv_lload_n hx hb dX0_puts_53 rfl (lv_at hl 2 rfl) ?_
    refine lv_l2i hx hb dX0_puts_54 rfl ?_
    refine lv_i2s hx hb dX0_puts_55 rfl ?_
    obtain ⟨v7, ev7, hf⟩ := q_ls hf
    refine b_topi ev7 ?_
    by_cases hin8 : inB x2 (rn x1) = true
    · have hf := q_t hf hin8
      obtain ⟨ri9, eri9, hf⟩ := q_ls hf
      refine b_rSst hx hb hW 0 rfl hx1 hk2 (Bs' := [pW g LR so rn ri9 rl]) (by subst eri9; rfl) hin8 dX0_puts_56 (fun H locs hW => ?_)
      refine lv_goto (tgt := 98) hx hb dX0_puts_57 (by decide) ?_
      refine b_toQ hE (fun Q hE => ?_)
      refine W.widen (k := 3) (n := 222) (by decide) (by decide) ?_
      exact b_vret hx hb hr hlk hE hW (LR, so, rn, ri9, rl) rfl hf rfl dX0_puts_98
    · have hf := q_f hf hin8
      obtain ⟨hn10, hf⟩ := q_cs hf
      refine b_rSstZ hx hb hW 0 rfl hx1 hk2 hin8 dX0_puts_56 (fun tx htx => b_thA hx hst hts hW (hl.1.trans hml.symm) hlk (of_decide_eq_true hn10) htx ⟨Nat.le_of_ble_eq_true rfl, Nat.le_of_ble_eq_true rfl⟩ (Nat.le_of_ble_eq_true rfl) ⟨Nat.le_of_ble_eq_true rfl, Nat.le_of_ble_eq_true rfl⟩ (fun H q10 ce10 hW hcell hcv hcl => ?_))
      exact b_outX hE hlk hno hW (LR, so, rn, ri, rl) rfl hcell hcv hcl ⟨rfl, hf⟩ (Nat.le_of_ble_eq_true rfl) (Nat.le_of_ble_eq_true rfl)
  · have hf := q_k5_2 hf hk2
    refine b_topi (y := 2) (congrArg rS hk2) ?_
    refine lv_tableIn (off := 56) (tgt := 60) hx hb dX0_puts_4 (by decide) (by decide) rfl (by decide) ?_
    refine lv_aload_n hx hb dX0_puts_60 rfl (lv_at hl 0 rfl) ?_
    refine b_rcast hx hb hown hW 0 rfl hx1 hk2 (hts _ q420) dX0_puts_61 ?_
    refine lv_iload_n hx hb dX0_puts_64 rfl (lv_at hl 1 rfl) ?_
    refine lv_lload_n hx hb dX0_puts_65 rfl (lv_at hl 2 rfl) ?_
    refine lv_l2i hx hb dX0_puts_66 rfl ?_
    obtain ⟨v11, ev11, hf⟩ := q_ls hf
    refine b_topi ev11 ?_
    by_cases hin12 : inB x2 (rn x1) = true
    · have hf := q_t hf hin12
      obtain ⟨ri13, eri13, hf⟩ := q_ls hf
      refine b_rIst hx hb hW 0 rfl hx1 hk2 (Bs' := [pW g LR so rn ri13 rl]) (by subst eri13; rfl) hin12 dX0_puts_67 (fun H locs hW => ?_)
      refine lv_goto (tgt := 98) hx hb dX0_puts_68 (by decide) ?_
      refine b_toQ hE (fun Q hE => ?_)
      refine W.widen (k := 3) (n := 222) (by decide) (by decide) ?_
      exact b_vret hx hb hr hlk hE hW (LR, so, rn, ri13, rl) rfl hf rfl dX0_puts_98
    · have hf := q_f hf hin12
      obtain ⟨hn14, hf⟩ := q_cs hf
      refine b_rIstZ hx hb hW 0 rfl hx1 hk2 hin12 dX0_puts_67 (fun tx htx => b_thA hx hst hts hW (hl.1.trans hml.symm) hlk (of_decide_eq_true hn14) htx ⟨Nat.le_of_ble_eq_true rfl, Nat.le_of_ble_eq_true rfl⟩ (Nat.le_of_ble_eq_true rfl) ⟨Nat.le_of_ble_eq_true rfl, Nat.le_of_ble_eq_true rfl⟩ (fun H q14 ce14 hW hcell hcv hcl => ?_))
      exact b_outX hE hlk hno hW (LR, so, rn, ri, rl) rfl hcell hcv hcl ⟨rfl, hf⟩ (Nat.le_of_ble_eq_true rfl) (Nat.le_of_ble_eq_true rfl)
  · have hf := q_k5_3 hf hk2
    refine b_topi (y := 3) (congrArg rS hk2) ?_
    refine lv_tableIn (off := 67) (tgt := 71) hx hb dX0_puts_4 (by decide) (by decide) rfl (by decide) ?_
    refine lv_aload_n hx hb dX0_puts_71 rfl (lv_at hl 0 rfl) ?_
    refine b_rcast hx hb hown hW 0 rfl hx1 hk2 (hts _ q421) dX0_puts_72 ?_
    refine lv_iload_n hx hb dX0_puts_75 rfl (lv_at hl 1 rfl) ?_
    refine lv_lload_n hx hb dX0_puts_76 rfl (lv_at hl 2 rfl) ?_
    by_cases hin15 : inB x2 (rn x1) = true
    · have hf := q_t hf hin15
      obtain ⟨rl16, erl16, hf⟩ := q_ls hf
      refine b_rLst hx hb hW 0 rfl hx1 hk2 (Bs' := [pW g LR so rn ri rl16]) (by subst erl16; rfl) hin15 dX0_puts_77 (fun H locs hW => ?_)
      refine lv_goto (tgt := 98) hx hb dX0_puts_78 (by decide) ?_
      refine b_toQ hE (fun Q hE => ?_)
      refine W.widen (k := 3) (n := 222) (by decide) (by decide) ?_
      exact b_vret hx hb hr hlk hE hW (LR, so, rn, ri, rl16) rfl hf rfl dX0_puts_98
    · have hf := q_f hf hin15
      obtain ⟨hn17, hf⟩ := q_cs hf
      refine b_rLstZ hx hb hW 0 rfl hx1 hk2 hin15 dX0_puts_77 (fun tx htx => b_thA hx hst hts hW (hl.1.trans hml.symm) hlk (of_decide_eq_true hn17) htx ⟨Nat.le_of_ble_eq_true rfl, Nat.le_of_ble_eq_true rfl⟩ (Nat.le_of_ble_eq_true rfl) ⟨Nat.le_of_ble_eq_true rfl, Nat.le_of_ble_eq_true rfl⟩ (fun H q17 ce17 hW hcell hcv hcl => ?_))
      exact b_outX hE hlk hno hW (LR, so, rn, ri, rl) rfl hcell hcv hcl ⟨rfl, hf⟩ (Nat.le_of_ble_eq_true rfl) (Nat.le_of_ble_eq_true rfl)
  · have hf := q_k5_4 hf hk2
    refine b_topi (y := 4) (congrArg rS hk2) ?_
    refine lv_tableOut (tgt := 81) hx hb dX0_puts_4 (by decide) (by decide) ?_
    refine lv_aload_n hx hb dX0_puts_81 rfl (lv_at hl 0 rfl) ?_
    refine b_rcast hx hb hown hW 0 rfl hx1 hk2 (hts _ q422) dX0_puts_82 ?_
    refine lv_iload_n hx hb dX0_puts_85 rfl (lv_at hl 1 rfl) ?_
    refine lv_lload_n hx hb dX0_puts_86 rfl (lv_at hl 2 rfl) ?_
    refine lv_lconst (v := 0) hx hb dX0_puts_87 (by decide) ?_
    refine W.lcmp hx hb dX0_puts_88 ?_
    refine lv_if_eq (tgt := 96) hx hb dX0_puts_89 (by decide) (fun c18 => ?_) (fun c18 => ?_)
    · have hf := q_t hf c18
      refine lv_iconst (v := 0) hx hb dX0_puts_96 (by decide) ?_
      by_cases hin19 : inB x2 (rn x1) = true
      · have hf := q_t hf hin19
        obtain ⟨ri20, eri20, hf⟩ := q_ls hf
        refine b_rZst hx hb hW 0 rfl hx1 hk2 (Bs' := [pW g LR so rn ri20 rl]) (by subst eri20; rfl) hin19 dX0_puts_97 (fun H locs hW => ?_)
        refine b_toQ hE (fun Q hE => ?_)
        refine W.widen (k := 3) (n := 222) (by decide) (by decide) ?_
        exact b_vret hx hb hr hlk hE hW (LR, so, rn, ri20, rl) rfl hf rfl dX0_puts_98
      · have hf := q_f hf hin19
        obtain ⟨hn21, hf⟩ := q_cs hf
        refine b_rZstZ hx hb hW 0 rfl hx1 hk2 hin19 dX0_puts_97 (fun tx htx => b_thA hx hst hts hW (hl.1.trans hml.symm) hlk (of_decide_eq_true hn21) htx ⟨Nat.le_of_ble_eq_true rfl, Nat.le_of_ble_eq_true rfl⟩ (Nat.le_of_ble_eq_true rfl) ⟨Nat.le_of_ble_eq_true rfl, Nat.le_of_ble_eq_true rfl⟩ (fun H q21 ce21 hW hcell hcv hcl => ?_))
        exact b_outX hE hlk hno hW (LR, so, rn, ri, rl) rfl hcell hcv hcl ⟨rfl, hf⟩ (Nat.le_of_ble_eq_true rfl) (Nat.le_of_ble_eq_true rfl)
    · have hf := q_f hf c18
      refine lv_iconst (v := 1) hx hb dX0_puts_92 (by decide) ?_
      refine lv_goto (tgt := 97) hx hb dX0_puts_93 (by decide) ?_
      by_cases hin22 : inB x2 (rn x1) = true
      · have hf := q_t hf hin22
        obtain ⟨ri23, eri23, hf⟩ := q_ls hf
        refine b_rZst hx hb hW 0 rfl hx1 hk2 (Bs' := [pW g LR so rn ri23 rl]) (by subst eri23; rfl) hin22 dX0_puts_97 (fun H locs hW => ?_)
        refine b_toQ hE (fun Q hE => ?_)
        refine W.widen (k := 3) (n := 222) (by decide) (by decide) ?_
        exact b_vret hx hb hr hlk hE hW (LR, so, rn, ri23, rl) rfl hf rfl dX0_puts_98
      · have hf := q_f hf hin22
        obtain ⟨hn24, hf⟩ := q_cs hf
        refine b_rZstZ hx hb hW 0 rfl hx1 hk2 hin22 dX0_puts_97 (fun tx htx => b_thA hx hst hts hW (hl.1.trans hml.symm) hlk (of_decide_eq_true hn24) htx ⟨Nat.le_of_ble_eq_true rfl, Nat.le_of_ble_eq_true rfl⟩ (Nat.le_of_ble_eq_true rfl) ⟨Nat.le_of_ble_eq_true rfl, Nat.le_of_ble_eq_true rfl⟩ (fun H q24 ce24 hW hcell hcv hcl => ?_))
        exact b_outX hE hlk hno hW (LR, so, rn, ri, rl) rfl hcell hcv hcl ⟨rfl, hf⟩ (Nat.le_of_ble_eq_true rfl) (Nat.le_of_ble_eq_true rfl)
def f_X0_rowIn (X : BC) (L : List Nat) (kd : Nat → Nat) (nu : Nat → Int32) (aa : Nat → Int32) (LR : List Nat) (so : Nat → Nat) (rn : Nat → Nat) (ri : Nat → Nat → Int32) (rl : Nat → Nat → Int64) (x1 : Int32) (post : Nat → Prop) (postX : Int32 → Prop) : Prop :=
 q_ck (inB x1 8) (q_op (X.2.1 1 (ix x1)) (postX (-4)) fun (z2 : Nat) =>
 (if z2 ∈ LR then
 post z2
 else
 q_ck (gIn L kd z2) (postX (-3))))
abbrev rm_X0_rowIn : Room := { frames := 5, cells := 1, slots := 7, locals := 117 }
set_option maxHeartbeats 4000000 in
set_option maxRecDepth 100000 in
theorem m_X0_rowIn (l : Launch) (D : va_G) (g : Nat → ClassId) (sz : Nat) (adX : Nat → Nat) (iX : Option Nat) (adN : Nat → Nat) (adT : Nat → Nat) (X : BC) (L : List Nat) (kd : Nat → Nat) (nu : Nat → Int32) (aa : Nat → Int32) (LR : List Nat) (so : Nat → Nat) (rn : Nat → Nat) (ri : Nat → Nat → Int32) (rl : Nat → Nat → Int64) (x1 : Int32) (post : Nat → Prop) (postX : Int32 → Prop) (hf : f_X0_rowIn X L kd nu aa LR so rn ri rl x1 post postX) : bxMet (S := Nat) (SX := Nat × Int32) l yX0_rowIn (ws_ yX0_rowIn cX0_rowIn 3 (some (.object "java/lang/Object"))) rm_X0_rowIn D g sz [.ref (adX 0), .int x1] [xW g adX (adN 0) (adT 0) iX X, gW L kd nu aa, pW g LR so rn ri rl] (fun u => u ∈ LR ∧ post u) (fun u => some (.ref u)) (fun u => [xW g adX (adN 0) (adT 0) iX X, gW L kd nu aa, pW g LR so rn ri rl]) (fun E q u => E = "EverybodyHasTheBook$Refused" ∧ q = u.1 ∧ postX u.2) (fun u => [xW g adX (adN 0) (adT 0) iX X, gW L kd nu aa, pW g LR so rn ri rl, [(u.1, .inr (4, xRf u.2))]]) := by
  refine b_metX (by decide) (Nat.le_of_ble_eq_true rfl) ?_
  intro p e s m args below meth c A Q ls hx hb hml hr hlk hown hname hts hno hE hl hW
  revert hW; generalize s.heap = H; intro hW
  have hl : lv_has ls 3 [(0, .ref (adX 0)), (1, .int x1)] := hl
  rw [f_X0_rowIn] at hf
  refine lv_aload_n hx hb dX0_rowIn_0 rfl (lv_at hl 0 rfl) ?_
  refine b_get hx hb hts in_X0 hown hW 0 0 0 3 rfl xW_0 rfl (by decide) ⟨rfl, rfl, rfl⟩ (hts _ q230) xW_g3 dX0_rowIn_1 ?_
  refine lv_iload_n hx hb dX0_rowIn_4 rfl (lv_at hl 1 rfl) ?_
  obtain ⟨h1, hf⟩ := q_cs hf
  refine b_aald hx hb hW 0 1 6 rfl xW_1 rfl h1 dX0_rowIn_5 ?_
  refine W.eq (g2 := F0 m 6 ls [.ref (adX (2 + ix x1))]) rfl ?_
  refine b_get hx hb hts in_X2 hown hW 0 (2 + ix x1) 2 0 rfl (xW_r2 (inB_lt h1)) rfl (by decide) ⟨rfl, rfl, rfl⟩ (hts _ q222) rfl dX0_rowIn_6 ?_
  refine b_split (fun hrf => ?_) (fun z2 hrf => ?_)
  · have hf := q_opn hf hrf
    refine lv_astore_nN (lv' := [(2, .null), (0, .ref (adX 0)), (1, .int x1)]) hx hb dX0_rowIn_9 rfl hl (by decide) rfl (fun ls hl => ?_)
    refine lv_aload_nN hx hb dX0_rowIn_10 rfl (lv_at hl 0 rfl) ?_
    refine lv_instN hx hb dX0_rowIn_11 ?_
    refine lv_if_eq (tgt := 27) hx hb dX0_rowIn_14 (by decide) (fun hc => ?_) (fun hc => absurd hc (by decide))
    refine lv_aload_nN hx hb dX0_rowIn_27 rfl (lv_at hl 0 rfl) ?_
    refine lv_ifnonnullN hx hb dX0_rowIn_28 ?_
    refine b_new (ci := 4) (fs := [.null, .null, .null, .null, .null, .int 0, .int 0]) hx hb hts in_X4 tyX4 tyX4_ok hown (hts _ q361) (hts _ q386) (hts _ q87) hW rfl (by intro j hj; rcases (show j = 0 ∨ j = 1 ∨ j = 2 ∨ j = 3 ∨ j = 4 ∨ j = 5 ∨ j = 6 by omega) with rfl | rfl | rfl | rfl | rfl | rfl | rfl <;> rfl) (Nat.le_of_ble_eq_true rfl) (Nat.le_of_ble_eq_true rfl) dX0_rowIn_31 (fun z3 H hW => ?_)
    refine W.cs (cells' := 1) (slots' := 7) rfl rfl ?_
    have hW : bW D g A s H _ [xW g adX (adN 0) (adT 0) iX X, gW L kd nu aa, pW g LR so rn ri rl, [(z3, .inr (4, [.null, .null, .null, .null, .null, .int 0, .int 0]))]] := hW
    refine lv_dup hx hb dX0_rowIn_34 rfl ?_
    refine lv_bipush (v := (-4)) hx hb dX0_rowIn_35 (by decide) ?_
    have hp4 : List.Perm ([xW g adX (adN 0) (adT 0) iX X, gW L kd nu aa, pW g LR so rn ri rl, [(z3, .inr (4, [.null, .null, .null, .null, .null, .int 0, .int 0]))]] : List va_W) ([[(z3, .inr (4, [.null, .null, .null, .null, .null, .int 0, .int 0]))]] ++ [xW g adX (adN 0) (adT 0) iX X, gW L kd nu aa, pW g LR so rn ri rl]) := b_perm [3] [0, 1, 2] 4 rfl rfl rfl rfl
    refine b_call0 ⟨rfl, rfl⟩ (va_runI (As := [.int (-4)]) (rest := [.ref z3]) ⟨hx, hb, hml, hown, hts⟩ (m_X4_init l D g H.size z3 (-4)) (cwI 1 hts (lw_meth q396) rfl rfl rfl (hts _ q87) (hts _ q394) (hts _ q395) rfl (by decide +kernel) ⟨Nat.le_of_ble_eq_true rfl, Nat.le_of_ble_eq_true rfl⟩) (b_preS hW hp4) rfl rfl hl.1 rfl (lv_room (Nat.le_of_ble_eq_true rfl)) dX0_rowIn_37 ⟨Nat.le_of_ble_eq_true rfl, Nat.le_of_ble_eq_true rfl⟩) hW hp4 (fun _ _ H locs hW => ?_)
    have hW : bW D g A s H locs [[(z3, .inr (4, xRf (-4)))], xW g adX (adN 0) (adT 0) iX X, gW L kd nu aa, pW g LR so rn ri rl] := hW
    refine vx_athrow hx hb dX0_rowIn_40 ?_
    obtain ⟨ce4, hcell, hcv, hcl⟩ := b_xcell hW (pp := 0) (q := 0) (ci := 4) rfl rfl rfl
    exact b_outX hE hlk hno (b_perms hW (b_ord [1, 2, 3, 0] 4 rfl rfl rfl)) (z3, (-4)) rfl hcell hcv hcl ⟨rfl, rfl, hf⟩ (Nat.le_of_ble_eq_true rfl) (Nat.le_of_ble_eq_true rfl)
  · have hf := q_ops hf hrf
    refine lv_astore_n (lv' := [(2, .ref z2), (0, .ref (adX 0)), (1, .int x1)]) hx hb dX0_rowIn_9 rfl hl (by decide) rfl (fun ls hl => ?_)
    refine lv_aload_n hx hb dX0_rowIn_10 rfl (lv_at hl 0 rfl) ?_
    by_cases hz6 : z2 ∈ LR
    · have hf := q_t hf hz6
      refine b_rinN hx hb hown hW 2 rfl hz6 rfl (hts _ q385) (r_noG hW.2.2.2.2.2 _) dX0_rowIn_11 ?_
      refine lv_if_eq (tgt := 27) hx hb dX0_rowIn_14 (by decide) (fun hc => ?_) (fun hc => absurd hc (by decide))
      refine lv_aload_n hx hb dX0_rowIn_27 rfl (lv_at hl 0 rfl) ?_
      refine lv_ifnonnull (tgt := 41) hx hb dX0_rowIn_28 (by decide) ?_
      refine lv_aload_n hx hb dX0_rowIn_41 rfl (lv_at hl 0 rfl) ?_
      refine b_toQ hE (fun Q hE => ?_)
      refine W.widen (k := 1) (n := 7) (by decide) (by decide) ?_
      exact b_aret hx hb hr (Or.inl ⟨_, rfl⟩) hlk hE hW z2 rfl ⟨hz6, hf⟩ (Or.inr ⟨_, rfl⟩) rfl dX0_rowIn_42
    · have hf := q_f hf hz6
      obtain ⟨h7, hf⟩ := q_cs hf
      refine b_instG hx hb hown (hts _ q385) hW 1 rfl h7 (fun _ => true) g_tbG dX0_rowIn_11 ?_
      refine b_topi (y := 1) rfl ?_
      refine lv_if_eq (tgt := 27) hx hb dX0_rowIn_14 (by decide) (fun hc => absurd hc (by decide)) (fun hc => ?_)
      refine b_new (ci := 4) (fs := [.null, .null, .null, .null, .null, .int 0, .int 0]) hx hb hts in_X4 tyX4 tyX4_ok hown (hts _ q361) (hts _ q386) (hts _ q87) hW rfl (by intro j hj; rcases (show j = 0 ∨ j = 1 ∨ j = 2 ∨ j = 3 ∨ j = 4 ∨ j = 5 ∨ j = 6 by omega) with rfl | rfl | rfl | rfl | rfl | rfl | rfl <;> rfl) (Nat.le_of_ble_eq_true rfl) (Nat.le_of_ble_eq_true rfl) dX0_rowIn_17 (fun z8 H hW => ?_)
      refine W.cs (cells' := 1) (slots' := 7) rfl rfl ?_
      have hW : bW D g A s H _ [xW g adX (adN 0) (adT 0) iX X, gW L kd nu aa, pW g LR so rn ri rl, [(z8, .inr (4, [.null, .null, .null, .null, .null, .int 0, .int 0]))]] := hW
      refine lv_dup hx hb dX0_rowIn_20 rfl ?_
      refine lv_bipush (v := (-3)) hx hb dX0_rowIn_21 (by decide) ?_
      have hp9 : List.Perm ([xW g adX (adN 0) (adT 0) iX X, gW L kd nu aa, pW g LR so rn ri rl, [(z8, .inr (4, [.null, .null, .null, .null, .null, .int 0, .int 0]))]] : List va_W) ([[(z8, .inr (4, [.null, .null, .null, .null, .null, .int 0, .int 0]))]] ++ [xW g adX (adN 0) (adT 0) iX X, gW L kd nu aa, pW g LR so rn ri rl]) := b_perm [3] [0, 1, 2] 4 rfl rfl rfl rfl
      refine b_call0 ⟨rfl, rfl⟩ (va_runI (As := [.int (-3)]) (rest := [.ref z8]) ⟨hx, hb, hml, hown, hts⟩ (m_X4_init l D g H.size z8 (-3)) (cwI 1 hts (lw_meth q396) rfl rfl rfl (hts _ q87) (hts _ q394) (hts _ q395) rfl (by decide +kernel) ⟨Nat.le_of_ble_eq_true rfl, Nat.le_of_ble_eq_true rfl⟩) (b_preS hW hp9) rfl rfl hl.1 rfl (lv_room (Nat.le_of_ble_eq_true rfl)) dX0_rowIn_23 ⟨Nat.le_of_ble_eq_true rfl, Nat.le_of_ble_eq_true rfl⟩) hW hp9 (fun _ _ H locs hW => ?_)
      have hW : bW D g A s H locs [[(z8, .inr (4, xRf (-3)))], xW g adX (adN 0) (adT 0) iX X, gW L kd nu aa, pW g LR so rn ri rl] := hW
      refine vx_athrow hx hb dX0_rowIn_26 ?_
      obtain ⟨ce9, hcell, hcv, hcl⟩ := b_xcell hW (pp := 0) (q := 0) (ci := 4) rfl rfl rfl
      exact b_outX hE hlk hno (b_perms hW (b_ord [1, 2, 3, 0] 4 rfl rfl rfl)) (z8, (-3)) rfl hcell hcv hcl ⟨rfl, rfl, hf⟩ (Nat.le_of_ble_eq_true rfl) (Nat.le_of_ble_eq_true rfl)
def f_X0_set (X : BC) (L : List Nat) (kd : Nat → Nat) (nu : Nat → Int32) (aa : Nat → Int32) (LR : List Nat) (so : Nat → Nat) (rn : Nat → Nat) (ri : Nat → Nat → Int32) (rl : Nat → Nat → Int64) (x1 : Int32) (x2 : Int32) (x3 : Int64) (post : Int32 → BC → List Nat → (Nat → Nat) → (Nat → Nat) → (Nat → Nat → Int32) → (Nat → Nat → Int64) → Prop) : Prop :=
 q_b1 (f_X0_isShelf x1) fun (r1 : Int32) =>
 (if r1 = 0 then
 q_b2 (f_X0_no X (-2)) fun (r22 : Int32) (X23 : BC) =>
 post r22 X23 LR so rn ri rl
 else
 f_X0_rowIn X L kd nu aa LR so rn ri rl x1 (fun (z7 : Nat) =>
 f_X0_puts LR so rn ri rl z7 x2 x3 (fun (LR17 : List Nat) (so18 : (Nat → Nat)) (rn19 : (Nat → Nat)) (ri20 : (Nat → Nat → Int32)) (rl21 : (Nat → Nat → Int64)) =>
 post 1 X LR17 so18 rn19 ri20 rl21) (fun (LR10 : List Nat) (so11 : (Nat → Nat)) (rn12 : (Nat → Nat)) (ri13 : (Nat → Nat → Int32)) (rl14 : (Nat → Nat → Int64)) => q_b2 (f_X0_no X (-2)) fun (r15 : Int32) (X16 : BC) =>
 post r15 X16 LR10 so11 rn12 ri13 rl14)) (fun (by4 : Int32) => q_b2 (f_X0_no X by4) fun (r5 : Int32) (X6 : BC) =>
 post r5 X6 LR so rn ri rl))
abbrev rm_X0_set : Room := { frames := 10, cells := 4, slots := 229, locals := 10323 }
set_option maxHeartbeats 4000000 in
set_option maxRecDepth 100000 in
theorem m_X0_set (l : Launch) (hst : l.stackTraces = false) (D : va_G) (g : Nat → ClassId) (sz : Nat) (adX : Nat → Nat) (iX : Option Nat) (adN : Nat → Nat) (adT : Nat → Nat) (X : BC) (L : List Nat) (kd : Nat → Nat) (nu : Nat → Int32) (aa : Nat → Int32) (LR : List Nat) (so : Nat → Nat) (rn : Nat → Nat) (ri : Nat → Nat → Int32) (rl : Nat → Nat → Int64) (x1 : Int32) (x2 : Int32) (x3 : Int64) (post : Int32 → BC → List Nat → (Nat → Nat) → (Nat → Nat) → (Nat → Nat → Int32) → (Nat → Nat → Int64) → Prop) (hf : f_X0_set X L kd nu aa LR so rn ri rl x1 x2 x3 post) : bxMet (S := Int32 × BC × List Nat × (Nat → Nat) × (Nat → Nat) × (Nat → Nat → Int32) × (Nat → Nat → Int64)) (SX := Unit) l yX0_set (wsW_ yX0_set cX0_set 6 (some .int) [(14, 25, 26, 106), (14, 25, 38, 122)]) rm_X0_set D g sz [.ref (adX 0), .int x1, .int x2, .long x3] [xW g adX (adN 0) (adT 0) iX X, gW L kd nu aa, pW g LR so rn ri rl] (fun u => post u.1 u.2.1 u.2.2.1 u.2.2.2.1 u.2.2.2.2.1 u.2.2.2.2.2.1 u.2.2.2.2.2.2) (fun u => some (.int u.1)) (fun u => [xW g adX (adN 0) (adT 0) iX (u.2.1), gW L kd nu aa, pW g u.2.2.1 u.2.2.2.1 u.2.2.2.2.1 u.2.2.2.2.2.1 u.2.2.2.2.2.2]) (fun _ _ _ => False) (fun _ => [xW g adX (adN 0) (adT 0) iX X, gW L kd nu aa, pW g LR so rn ri rl]) := by
  refine b_metH (by decide) (Nat.le_of_ble_eq_true rfl) ?_
  intro p e s m args below meth c A Q ls hx hb hml hr hlk hown hname hts htab hE hl hW
  revert hW; generalize s.heap = H; intro hW
  have hl : lv_has ls 6 [(0, .ref (adX 0)), (1, .int x1), (2, .int x2), (3, .long x3)] := hl
  rw [f_X0_set] at hf
  refine lv_iload_n hx hb dX0_set_0 rfl (lv_at hl 1 rfl) ?_
  obtain ⟨r1, hc1, hf⟩ := q_b1s hf
  have hp1 : List.Perm [xW g adX (adN 0) (adT 0) iX X, gW L kd nu aa, pW g LR so rn ri rl] ([] ++ [xW g adX (adN 0) (adT 0) iX X, gW L kd nu aa, pW g LR so rn ri rl]) := b_perm [] [0, 1, 2] 3 rfl rfl rfl rfl
  refine b_call0 ⟨rfl, rfl⟩ (va_runS (As := [.int x1]) (rest := []) ⟨hx, hb, hml, hown, hts⟩ (m_X0_isShelf l D g H.size x1 r1 hc1) (va_cwS 1 hts (lw_S q341 q342 q76 q343) rfl rfl rfl (by decide +kernel) ⟨Nat.le_of_ble_eq_true rfl, Nat.le_of_ble_eq_true rfl⟩) (b_preS hW hp1) rfl rfl hl.1 rfl (lv_room (Nat.le_of_ble_eq_true rfl)) dX0_set_1 ⟨Nat.le_of_ble_eq_true rfl, Nat.le_of_ble_eq_true rfl⟩) hW hp1 (fun _ _ H locs hW => ?_)
  have hW : bW D g A s H locs [xW g adX (adN 0) (adT 0) iX X, gW L kd nu aa, pW g LR so rn ri rl] := hW
  refine lv_if_ne (tgt := 14) hx hb dX0_set_4 (by decide) (fun c2 => ?_) (fun c2 => ?_)
  · have hf := q_f hf c2
    refine lv_aload_n hx hb dX0_set_14 rfl (lv_at hl 0 rfl) ?_
    refine lv_iload_n hx hb dX0_set_15 rfl (lv_at hl 1 rfl) ?_
    have hp3 : List.Perm ([xW g adX (adN 0) (adT 0) iX X, gW L kd nu aa, pW g LR so rn ri rl] : List va_W) ([xW g adX (adN 0) (adT 0) iX X, gW L kd nu aa, pW g LR so rn ri rl] ++ []) := b_perm [0, 1, 2] [] 3 rfl rfl rfl rfl
    refine b_callX (vx_runV (As := [.int x1]) (rest := []) ⟨hx, hb, hml, hown, hts⟩ (m_X0_rowIn l D g H.size adX iX adN adT X L kd nu aa LR so rn ri rl x1 _ _ hf) (cwV 1 hts (lw_V q381 q383 qs3 q76 q384) rfl rfl rfl (by decide +kernel) ⟨Nat.le_of_ble_eq_true rfl, Nat.le_of_ble_eq_true rfl⟩) (b_preV (pp := 0) (q := 0) hW hp3 rfl xW_0 rfl) rfl rfl hl.1 rfl (lv_room (Nat.le_of_ble_eq_true rfl)) dX0_set_16 ⟨Nat.le_of_ble_eq_true rfl, Nat.le_of_ble_eq_true rfl⟩) hW hp3 (fun E q3 ce3 u3 hok H locs hW hcell hcv hcl => ?_) (fun u3 hf H locs hW => ?_)
    · try dsimp only at hok hW
      obtain ⟨z9, by4⟩ := u3
      obtain ⟨hE9, hq9, hf⟩ := hok; (try dsimp only at hq9 hf hW); subst hE9; subst hq9
      have hW : bW D g A s H locs [xW g adX (adN 0) (adT 0) iX X, gW L kd nu aa, pW g LR so rn ri rl, [(q3, .inr (4, xRf by4))]] := hW
      refine vx_catch hown [] ⟨14, 25, 26, 106⟩ [⟨14, 25, 38, 122⟩] (htab.trans rfl) (fun z hz => nomatch hz) (by decide) (by decide) (hts _ q361) (b_castC hW.2.2.2.2.2 2 rfl) hcell hcv hcl ?_
      refine W.cs (cells' := 1) (slots' := 7) rfl rfl ?_
      refine lv_astore (lv' := [(5, .ref q3), (0, .ref (adX 0)), (1, .int x1), (2, .int x2), (3, .long x3)]) hx hb dX0_set_26 hl (by decide) rfl (fun ls hl => ?_)
      refine lv_aload_n hx hb dX0_set_28 rfl (lv_at hl 1 rfl) ?_
      refine lv_aload hx hb dX0_set_29 (lv_at hl 0 rfl) ?_
      refine b_get hx hb hts in_X4 hown hW 3 0 4 6 rfl rfl rfl (by decide) ⟨rfl, rfl, rfl⟩ (hts _ q407) rfl dX0_set_31 ?_
      obtain ⟨r5, X6, hc6, hf⟩ := q_b2s hf
      have hp6 : List.Perm [xW g adX (adN 0) (adT 0) iX X, gW L kd nu aa, pW g LR so rn ri rl, [(q3, .inr (4, xRf by4))]] ([xW g adX (adN 0) (adT 0) iX X] ++ [gW L kd nu aa, pW g LR so rn ri rl, [(q3, .inr (4, xRf by4))]]) := b_perm [0] [1, 2, 3] 4 rfl rfl rfl rfl
      refine b_call0 ⟨rfl, rfl⟩ (va_runV (As := [.int by4]) (rest := []) ⟨hx, hb, hml, hown, hts⟩ (m_X0_no l D g H.size adX iX adN adT X by4 r5 X6 hc6) (cwV 1 hts (lw_V q347 q349 qs2 q76 q350) rfl rfl rfl (by decide +kernel) ⟨Nat.le_of_ble_eq_true rfl, Nat.le_of_ble_eq_true rfl⟩) (b_preV (pp := 0) (q := 0) hW hp6 rfl xW_0 rfl) rfl rfl hl.1 rfl (lv_room (Nat.le_of_ble_eq_true rfl)) dX0_set_34 ⟨Nat.le_of_ble_eq_true rfl, Nat.le_of_ble_eq_true rfl⟩) hW hp6 (fun _ _ H locs hW => ?_)
      have hW : bW D g A s H locs [xW g adX (adN 0) (adT 0) iX X6, gW L kd nu aa, pW g LR so rn ri rl, [(q3, .inr (4, xRf by4))]] := hW
      refine b_toQ hE (fun Q hE => ?_)
      refine W.widen (k := 4) (n := 229) (by decide) (by decide) ?_
      exact b_iret hx hb hr hlk hE (b_sub (Bs' := [xW g adX (adN 0) (adT 0) iX X6, gW L kd nu aa, pW g LR so rn ri rl]) (wr := [[(q3, .inr (4, xRf by4))]]) hW (b_ord [0, 1, 2, 3] 4 rfl rfl rfl)) (r5, X6, LR, so, rn, ri, rl) rfl hf rfl dX0_set_37
    · try dsimp only at hf hW
      revert hf hW; generalize u3 = z7; intro hf hW
      obtain ⟨hz8, hf⟩ := hf
      refine W.cs (cells' := 1) (slots' := 7) rfl rfl ?_
      have hW : bW D g A s H locs [xW g adX (adN 0) (adT 0) iX X, gW L kd nu aa, pW g LR so rn ri rl] := hW
      refine lv_iload_n hx hb dX0_set_19 rfl (lv_at hl 2 rfl) ?_
      refine lv_lload_n hx hb dX0_set_20 rfl (lv_at hl 3 rfl) ?_
      have hp9 : List.Perm ([xW g adX (adN 0) (adT 0) iX X, gW L kd nu aa, pW g LR so rn ri rl] : List va_W) ([pW g LR so rn ri rl] ++ [xW g adX (adN 0) (adT 0) iX X, gW L kd nu aa]) := b_perm [2] [0, 1] 3 rfl rfl rfl rfl
      refine b_callX (vx_runS (As := [.ref z7, .int x2, .long x3]) (rest := []) ⟨hx, hb, hml, hown, hts⟩ (m_X0_puts l hst D g H.size LR so rn ri rl z7 x2 x3 _ _ hz8 hf) (va_cwS 3 hts (lw_S q412 q413 q76 q414) rfl rfl rfl (by decide +kernel) ⟨Nat.le_of_ble_eq_true rfl, Nat.le_of_ble_eq_true rfl⟩) (b_preS hW hp9) rfl rfl hl.1 rfl (lv_room (Nat.le_of_ble_eq_true rfl)) dX0_set_21 ⟨Nat.le_of_ble_eq_true rfl, Nat.le_of_ble_eq_true rfl⟩) hW hp9 (fun E q9 ce9 u9 hok H locs hW hcell hcv hcl => ?_) (fun u9 hf H locs hW => ?_)
      · try dsimp only at hok hW
        obtain ⟨LR10, so11, rn12, ri13, rl14⟩ := u9
        obtain ⟨hE9, hf⟩ := hok; (try dsimp only at hf hW); subst hE9
        have hW : bW D g A s H locs [pW g LR10 so11 rn12 ri13 rl14, xW g adX (adN 0) (adT 0) iX X, gW L kd nu aa] := hW
        refine vx_catch hown [⟨14, 25, 26, 106⟩] ⟨14, 25, 38, 122⟩ [] (htab.trans rfl) (List.forall_mem_cons.mpr ⟨Or.inr ⟨by decide, "EverybodyHasTheBook$Refused", hts _ q361, b_castN hW.2.2.2.2.2 117 rfl⟩, (fun z hz => nomatch hz)⟩) (by decide) (by decide) (hts _ q362) (b_castC hW.2.2.2.2.2 1 rfl) hcell hcv hcl ?_
        refine W.cs (cells' := 4) (slots' := 229) rfl rfl ?_
        refine lv_astore (lv' := [(5, .ref q9), (0, .ref (adX 0)), (1, .int x1), (2, .int x2), (3, .long x3)]) hx hb dX0_set_38 hl (by decide) rfl (fun ls hl => ?_)
        refine lv_aload_n hx hb dX0_set_40 rfl (lv_at hl 1 rfl) ?_
        refine lv_bipush (v := (-2)) hx hb dX0_set_41 (by decide) ?_
        obtain ⟨r15, X16, hc16, hf⟩ := q_b2s hf
        have hp16 : List.Perm [pW g LR10 so11 rn12 ri13 rl14, xW g adX (adN 0) (adT 0) iX X, gW L kd nu aa] ([xW g adX (adN 0) (adT 0) iX X] ++ [pW g LR10 so11 rn12 ri13 rl14, gW L kd nu aa]) := b_perm [1] [0, 2] 3 rfl rfl rfl rfl
        refine b_call0 ⟨rfl, rfl⟩ (va_runV (As := [.int (-2)]) (rest := []) ⟨hx, hb, hml, hown, hts⟩ (m_X0_no l D g H.size adX iX adN adT X (-2) r15 X16 hc16) (cwV 1 hts (lw_V q347 q349 qs2 q76 q350) rfl rfl rfl (by decide +kernel) ⟨Nat.le_of_ble_eq_true rfl, Nat.le_of_ble_eq_true rfl⟩) (b_preV (pp := 1) (q := 0) hW hp16 rfl xW_0 rfl) rfl rfl hl.1 rfl (lv_room (Nat.le_of_ble_eq_true rfl)) dX0_set_43 ⟨Nat.le_of_ble_eq_true rfl, Nat.le_of_ble_eq_true rfl⟩) hW hp16 (fun _ _ H locs hW => ?_)
        have hW : bW D g A s H locs [xW g adX (adN 0) (adT 0) iX X16, pW g LR10 so11 rn12 ri13 rl14, gW L kd nu aa] := hW
        refine b_toQ hE (fun Q hE => ?_)
        refine W.widen (k := 4) (n := 229) (by decide) (by decide) ?_
        exact b_iret hx hb hr hlk hE (b_perms hW (b_ord [0, 2, 1] 3 rfl rfl rfl)) (r15, X16, LR10, so11, rn12, ri13, rl14) rfl hf rfl dX0_set_46
      · try dsimp only at hf hW
        obtain ⟨LR17, so18, rn19, ri20, rl21⟩ := u9
        try dsimp only at hf hW ⊢
        refine W.cs (cells' := 4) (slots' := 229) rfl rfl ?_
        have hW : bW D g A s H locs [pW g LR17 so18 rn19 ri20 rl21, xW g adX (adN 0) (adT 0) iX X, gW L kd nu aa] := hW
        refine lv_iconst (v := 1) hx hb dX0_set_24 (by decide) ?_
        refine b_toQ hE (fun Q hE => ?_)
        refine W.widen (k := 4) (n := 229) (by decide) (by decide) ?_
        exact b_iret hx hb hr hlk hE (b_perms hW (b_ord [1, 2, 0] 3 rfl rfl rfl)) (1, X, LR17, so18, rn19, ri20, rl21) rfl hf rfl dX0_set_25
  · have hf := q_t hf c2
    refine lv_aload_n hx hb dX0_set_7 rfl (lv_at hl 0 rfl) ?_
    refine lv_bipush (v := (-2)) hx hb dX0_set_8 (by decide) ?_
    obtain ⟨r22, X23, hc23, hf⟩ := q_b2s hf
    have hp23 : List.Perm [xW g adX (adN 0) (adT 0) iX X, gW L kd nu aa, pW g LR so rn ri rl] ([xW g adX (adN 0) (adT 0) iX X] ++ [gW L kd nu aa, pW g LR so rn ri rl]) := b_perm [0] [1, 2] 3 rfl rfl rfl rfl
    refine b_call0 ⟨rfl, rfl⟩ (va_runV (As := [.int (-2)]) (rest := []) ⟨hx, hb, hml, hown, hts⟩ (m_X0_no l D g H.size adX iX adN adT X (-2) r22 X23 hc23) (cwV 1 hts (lw_V q347 q349 qs2 q76 q350) rfl rfl rfl (by decide +kernel) ⟨Nat.le_of_ble_eq_true rfl, Nat.le_of_ble_eq_true rfl⟩) (b_preV (pp := 0) (q := 0) hW hp23 rfl xW_0 rfl) rfl rfl hl.1 rfl (lv_room (Nat.le_of_ble_eq_true rfl)) dX0_set_10 ⟨Nat.le_of_ble_eq_true rfl, Nat.le_of_ble_eq_true rfl⟩) hW hp23 (fun _ _ H locs hW => ?_)
    have hW : bW D g A s H locs [xW g adX (adN 0) (adT 0) iX X23, gW L kd nu aa, pW g LR so rn ri rl] := hW
    refine b_toQ hE (fun Q hE => ?_)
    refine W.widen (k := 4) (n := 229) (by decide) (by decide) ?_
    exact b_iret hx hb hr hlk hE hW (r22, X23, LR, so, rn, ri, rl) rfl hf rfl dX0_set_13
def f_X0_element (X : BC) (L : List Nat) (kd : Nat → Nat) (nu : Nat → Int32) (aa : Nat → Int32) (LR : List Nat) (so : Nat → Nat) (rn : Nat → Nat) (ri : Nat → Nat → Int32) (rl : Nat → Nat → Int64) (x1 : Int32) (x2 : Int32) (post : Int64 → Prop) : Prop :=
 q_b1 (f_X0_isShelf x1) fun (r1 : Int32) =>
 (if r1 = 0 then
 post 0
 else
 f_X0_rowIn X L kd nu aa LR so rn ri rl x1 (fun (z5 : Nat) =>
 f_X0_elementOf LR so rn ri rl z5 x2 (fun (r8 : Int64) =>
 post r8) (post 0)) (fun (by4 : Int32) => post 0))
abbrev rm_X0_element : Room := { frames := 10, cells := 4, slots := 229, locals := 10321 }
set_option maxHeartbeats 4000000 in
set_option maxRecDepth 100000 in
theorem m_X0_element (l : Launch) (hst : l.stackTraces = false) (D : va_G) (g : Nat → ClassId) (sz : Nat) (adX : Nat → Nat) (iX : Option Nat) (adN : Nat → Nat) (adT : Nat → Nat) (X : BC) (L : List Nat) (kd : Nat → Nat) (nu : Nat → Int32) (aa : Nat → Int32) (LR : List Nat) (so : Nat → Nat) (rn : Nat → Nat) (ri : Nat → Nat → Int32) (rl : Nat → Nat → Int64) (x1 : Int32) (x2 : Int32) (post : Int64 → Prop) (hf : f_X0_element X L kd nu aa LR so rn ri rl x1 x2 post) : bxMet (S := Int64) (SX := Unit) l yX0_element (wsW_ yX0_element cX0_element 4 (some .long) [(9, 18, 19, 106), (9, 18, 22, 122)]) rm_X0_element D g sz [.ref (adX 0), .int x1, .int x2] [xW g adX (adN 0) (adT 0) iX X, gW L kd nu aa, pW g LR so rn ri rl] (fun u => post u) (fun u => some (.long u)) (fun u => [xW g adX (adN 0) (adT 0) iX X, gW L kd nu aa, pW g LR so rn ri rl]) (fun _ _ _ => False) (fun _ => [xW g adX (adN 0) (adT 0) iX X, gW L kd nu aa, pW g LR so rn ri rl]) := by
  refine b_metH (by decide) (Nat.le_of_ble_eq_true rfl) ?_
  intro p e s m args below meth c A Q ls hx hb hml hr hlk hown hname hts htab hE hl hW
  revert hW; generalize s.heap = H; intro hW
  have hl : lv_has ls 4 [(0, .ref (adX 0)), (1, .int x1), (2, .int x2)] := hl
  rw [f_X0_element] at hf
  refine lv_iload_n hx hb dX0_element_0 rfl (lv_at hl 1 rfl) ?_
  obtain ⟨r1, hc1, hf⟩ := q_b1s hf
  have hp1 : List.Perm [xW g adX (adN 0) (adT 0) iX X, gW L kd nu aa, pW g LR so rn ri rl] ([] ++ [xW g adX (adN 0) (adT 0) iX X, gW L kd nu aa, pW g LR so rn ri rl]) := b_perm [] [0, 1, 2] 3 rfl rfl rfl rfl
  refine b_call0 ⟨rfl, rfl⟩ (va_runS (As := [.int x1]) (rest := []) ⟨hx, hb, hml, hown, hts⟩ (m_X0_isShelf l D g H.size x1 r1 hc1) (va_cwS 1 hts (lw_S q341 q342 q76 q343) rfl rfl rfl (by decide +kernel) ⟨Nat.le_of_ble_eq_true rfl, Nat.le_of_ble_eq_true rfl⟩) (b_preS hW hp1) rfl rfl hl.1 rfl (lv_room (Nat.le_of_ble_eq_true rfl)) dX0_element_1 ⟨Nat.le_of_ble_eq_true rfl, Nat.le_of_ble_eq_true rfl⟩) hW hp1 (fun _ _ H locs hW => ?_)
  have hW : bW D g A s H locs [xW g adX (adN 0) (adT 0) iX X, gW L kd nu aa, pW g LR so rn ri rl] := hW
  refine lv_if_ne (tgt := 9) hx hb dX0_element_4 (by decide) (fun c2 => ?_) (fun c2 => ?_)
  · have hf := q_f hf c2
    refine lv_aload_n hx hb dX0_element_9 rfl (lv_at hl 0 rfl) ?_
    refine lv_iload_n hx hb dX0_element_10 rfl (lv_at hl 1 rfl) ?_
    have hp3 : List.Perm ([xW g adX (adN 0) (adT 0) iX X, gW L kd nu aa, pW g LR so rn ri rl] : List va_W) ([xW g adX (adN 0) (adT 0) iX X, gW L kd nu aa, pW g LR so rn ri rl] ++ []) := b_perm [0, 1, 2] [] 3 rfl rfl rfl rfl
    refine b_callX (vx_runV (As := [.int x1]) (rest := []) ⟨hx, hb, hml, hown, hts⟩ (m_X0_rowIn l D g H.size adX iX adN adT X L kd nu aa LR so rn ri rl x1 _ _ hf) (cwV 1 hts (lw_V q381 q383 qs3 q76 q384) rfl rfl rfl (by decide +kernel) ⟨Nat.le_of_ble_eq_true rfl, Nat.le_of_ble_eq_true rfl⟩) (b_preV (pp := 0) (q := 0) hW hp3 rfl xW_0 rfl) rfl rfl hl.1 rfl (lv_room (Nat.le_of_ble_eq_true rfl)) dX0_element_11 ⟨Nat.le_of_ble_eq_true rfl, Nat.le_of_ble_eq_true rfl⟩) hW hp3 (fun E q3 ce3 u3 hok H locs hW hcell hcv hcl => ?_) (fun u3 hf H locs hW => ?_)
    · try dsimp only at hok hW
      obtain ⟨z9, by4⟩ := u3
      obtain ⟨hE9, hq9, hf⟩ := hok; (try dsimp only at hq9 hf hW); subst hE9; subst hq9
      have hW : bW D g A s H locs [xW g adX (adN 0) (adT 0) iX X, gW L kd nu aa, pW g LR so rn ri rl, [(q3, .inr (4, xRf by4))]] := hW
      refine vx_catch hown [] ⟨9, 18, 19, 106⟩ [⟨9, 18, 22, 122⟩] (htab.trans rfl) (fun z hz => nomatch hz) (by decide) (by decide) (hts _ q361) (b_castC hW.2.2.2.2.2 2 rfl) hcell hcv hcl ?_
      refine W.cs (cells' := 1) (slots' := 7) rfl rfl ?_
      refine lv_astore_n (lv' := [(3, .ref q3), (0, .ref (adX 0)), (1, .int x1), (2, .int x2)]) hx hb dX0_element_19 rfl hl (by decide) rfl (fun ls hl => ?_)
      refine lv_lconst (v := 0) hx hb dX0_element_20 (by decide) ?_
      refine b_toQ hE (fun Q hE => ?_)
      refine W.widen (k := 4) (n := 229) (by decide) (by decide) ?_
      exact b_lret hx hb hr hlk hE (b_sub (Bs' := [xW g adX (adN 0) (adT 0) iX X, gW L kd nu aa, pW g LR so rn ri rl]) (wr := [[(q3, .inr (4, xRf by4))]]) hW (b_ord [0, 1, 2, 3] 4 rfl rfl rfl)) 0 rfl hf rfl dX0_element_21
    · try dsimp only at hf hW
      revert hf hW; generalize u3 = z5; intro hf hW
      obtain ⟨hz6, hf⟩ := hf
      refine W.cs (cells' := 1) (slots' := 7) rfl rfl ?_
      have hW : bW D g A s H locs [xW g adX (adN 0) (adT 0) iX X, gW L kd nu aa, pW g LR so rn ri rl] := hW
      refine lv_iload_n hx hb dX0_element_14 rfl (lv_at hl 2 rfl) ?_
      have hp7 : List.Perm ([xW g adX (adN 0) (adT 0) iX X, gW L kd nu aa, pW g LR so rn ri rl] : List va_W) ([pW g LR so rn ri rl] ++ [xW g adX (adN 0) (adT 0) iX X, gW L kd nu aa]) := b_perm [2] [0, 1] 3 rfl rfl rfl rfl
      refine b_callX (vx_runS (As := [.ref z5, .int x2]) (rest := []) ⟨hx, hb, hml, hown, hts⟩ (m_X0_elementOf l hst D g H.size LR so rn ri rl z5 x2 _ _ hz6 hf) (va_cwS 2 hts (lw_S q474 q475 q76 q476) rfl rfl rfl (by decide +kernel) ⟨Nat.le_of_ble_eq_true rfl, Nat.le_of_ble_eq_true rfl⟩) (b_preS hW hp7) rfl rfl hl.1 rfl (lv_room (Nat.le_of_ble_eq_true rfl)) dX0_element_15 ⟨Nat.le_of_ble_eq_true rfl, Nat.le_of_ble_eq_true rfl⟩) hW hp7 (fun E q7 ce7 u7 hok H locs hW hcell hcv hcl => ?_) (fun u7 hf H locs hW => ?_)
      · try dsimp only at hok hW
        obtain ⟨hE9, hf⟩ := hok; (try dsimp only at hf hW); subst hE9
        have hW : bW D g A s H locs [pW g LR so rn ri rl, xW g adX (adN 0) (adT 0) iX X, gW L kd nu aa] := hW
        refine vx_catch hown [⟨9, 18, 19, 106⟩] ⟨9, 18, 22, 122⟩ [] (htab.trans rfl) (List.forall_mem_cons.mpr ⟨Or.inr ⟨by decide, "EverybodyHasTheBook$Refused", hts _ q361, b_castN hW.2.2.2.2.2 117 rfl⟩, (fun z hz => nomatch hz)⟩) (by decide) (by decide) (hts _ q362) (b_castC hW.2.2.2.2.2 1 rfl) hcell hcv hcl ?_
        refine W.cs (cells' := 4) (slots' := 229) rfl rfl ?_
        refine lv_astore_n (lv' := [(3, .ref q7), (0, .ref (adX 0)), (1, .int x1), (2, .int x2)]) hx hb dX0_element_22 rfl hl (by decide) rfl (fun ls hl => ?_)
        refine lv_lconst (v := 0) hx hb dX0_element_23 (by decide) ?_
        refine b_toQ hE (fun Q hE => ?_)
        refine W.widen (k := 4) (n := 229) (by decide) (by decide) ?_
        exact b_lret hx hb hr hlk hE (b_perms hW (b_ord [1, 2, 0] 3 rfl rfl rfl)) 0 rfl hf rfl dX0_element_24
      · try dsimp only at hf hW
        revert hf hW; generalize u7 = r8; intro hf hW
        refine W.cs (cells' := 4) (slots' := 229) rfl rfl ?_
        have hW : bW D g A s H locs [pW g LR so rn ri rl, xW g adX (adN 0) (adT 0) iX X, gW L kd nu aa] := hW
        refine b_toQ hE (fun Q hE => ?_)
        refine W.widen (k := 4) (n := 229) (by decide) (by decide) ?_
        exact b_lret hx hb hr hlk hE (b_perms hW (b_ord [1, 2, 0] 3 rfl rfl rfl)) r8 rfl hf rfl dX0_element_18
  · have hf := q_t hf c2
    refine lv_lconst (v := 0) hx hb dX0_element_7 (by decide) ?_
    refine b_toQ hE (fun Q hE => ?_)
    refine W.widen (k := 4) (n := 229) (by decide) (by decide) ?_
    exact b_lret hx hb hr hlk hE hW 0 rfl hf rfl dX0_element_8
def f_X0_row (X : BC) (LR : List Nat) (so : Nat → Nat) (rn : Nat → Nat) (ri : Nat → Nat → Int32) (rl : Nat → Nat → Int64) (x1 : Int32) (x2 : Int32) (x3 : Int32) (post : Int32 → BC → List Nat → (Nat → Nat) → (Nat → Nat) → (Nat → Nat → Int32) → (Nat → Nat → Int64) → Prop) : Prop :=
 q_b1 (f_X0_isShelf x1) fun (r1 : Int32) =>
 (if r1 = 0 then
 q_b2 (f_X0_no X (-2)) fun (r3 : Int32) (X4 : BC) =>
 post r3 X4 LR so rn ri rl
 else
 (if x2 < 0 then
 q_b2 (f_X0_no X (-2)) fun (r6 : Int32) (X7 : BC) =>
 post r6 X7 LR so rn ri rl
 else
 (if (4 : Int32) < x2 then
 q_b2 (f_X0_no X (-2)) fun (r9 : Int32) (X10 : BC) =>
 post r9 X10 LR so rn ri rl
 else
 (if x3 ≤ 40 then
 q_ck (inB x1 8) ((if x3 < 0 then
 q_b2 (f_X0_no X (-2)) fun (r15 : Int32) (X16 : BC) =>
 post r15 X16 LR so rn ri rl
 else q_al LR fun (z14 : Nat) => q_lt (z14 :: LR) fun (LR17 : List Nat) =>
 q_lt (fun q => if q = z14 then rQ x2 else so q) fun (so18 : Nat → Nat) =>
 q_lt (fun q => if q = z14 then ix x3 else rn q) fun (rn19 : Nat → Nat) =>
 q_lt (fun q => if q = z14 then fun _ => 0 else ri q) fun (ri20 : Nat → Nat → Int32) =>
 q_lt (fun q => if q = z14 then fun _ => 0 else rl q) fun (rl21 : Nat → Nat → Int64) =>
 q_lt (bR X 1 (va_up (X.2.1 1) (ix x1) (some z14))) fun (X22 : BC) =>
 post 1 X22 LR17 so18 rn19 ri20 rl21))
 else
 q_b2 (f_X0_no X (-2)) fun (r23 : Int32) (X24 : BC) =>
 post r23 X24 LR so rn ri rl))))
abbrev rm_X0_row : Room := { frames := 10, cells := 3, slots := 54, locals := 10321 }
set_option maxHeartbeats 4000000 in
set_option maxRecDepth 100000 in
theorem m_X0_row (l : Launch) (hst : l.stackTraces = false) (D : va_G) (g : Nat → ClassId) (sz : Nat) (adX : Nat → Nat) (iX : Option Nat) (adN : Nat → Nat) (adT : Nat → Nat) (X : BC) (LR : List Nat) (so : Nat → Nat) (rn : Nat → Nat) (ri : Nat → Nat → Int32) (rl : Nat → Nat → Int64) (x1 : Int32) (x2 : Int32) (x3 : Int32) (post : Int32 → BC → List Nat → (Nat → Nat) → (Nat → Nat) → (Nat → Nat → Int32) → (Nat → Nat → Int64) → Prop) (hf : f_X0_row X LR so rn ri rl x1 x2 x3 post) : bxMet (S := Int32 × BC × List Nat × (Nat → Nat) × (Nat → Nat) × (Nat → Nat → Int32) × (Nat → Nat → Int64)) (SX := Unit) l yX0_row (wsW_ yX0_row cX0_row 5 (some .int) [(29, 43, 46, 104)]) rm_X0_row D g sz [.ref (adX 0), .int x1, .int x2, .int x3] [xW g adX (adN 0) (adT 0) iX X, pW g LR so rn ri rl] (fun u => post u.1 u.2.1 u.2.2.1 u.2.2.2.1 u.2.2.2.2.1 u.2.2.2.2.2.1 u.2.2.2.2.2.2) (fun u => some (.int u.1)) (fun u => [xW g adX (adN 0) (adT 0) iX (u.2.1), pW g u.2.2.1 u.2.2.2.1 u.2.2.2.2.1 u.2.2.2.2.2.1 u.2.2.2.2.2.2]) (fun _ _ _ => False) (fun _ => [xW g adX (adN 0) (adT 0) iX X, pW g LR so rn ri rl]) := by
  refine b_metH (by decide) (Nat.le_of_ble_eq_true rfl) ?_
  intro p e s m args below meth c A Q ls hx hb hml hr hlk hown hname hts htab hE hl hW
  revert hW; generalize s.heap = H; intro hW
  have hl : lv_has ls 5 [(0, .ref (adX 0)), (1, .int x1), (2, .int x2), (3, .int x3)] := hl
  rw [f_X0_row] at hf
  refine lv_iload_n hx hb dX0_row_0 rfl (lv_at hl 1 rfl) ?_
  obtain ⟨r1, hc1, hf⟩ := q_b1s hf
  have hp1 : List.Perm [xW g adX (adN 0) (adT 0) iX X, pW g LR so rn ri rl] ([] ++ [xW g adX (adN 0) (adT 0) iX X, pW g LR so rn ri rl]) := b_perm [] [0, 1] 2 rfl rfl rfl rfl
  refine b_call0 ⟨rfl, rfl⟩ (va_runS (As := [.int x1]) (rest := []) ⟨hx, hb, hml, hown, hts⟩ (m_X0_isShelf l D g H.size x1 r1 hc1) (va_cwS 1 hts (lw_S q341 q342 q76 q343) rfl rfl rfl (by decide +kernel) ⟨Nat.le_of_ble_eq_true rfl, Nat.le_of_ble_eq_true rfl⟩) (b_preS hW hp1) rfl rfl hl.1 rfl (lv_room (Nat.le_of_ble_eq_true rfl)) dX0_row_1 ⟨Nat.le_of_ble_eq_true rfl, Nat.le_of_ble_eq_true rfl⟩) hW hp1 (fun _ _ H locs hW => ?_)
  have hW : bW D g A s H locs [xW g adX (adN 0) (adT 0) iX X, pW g LR so rn ri rl] := hW
  refine lv_if_eq (tgt := 22) hx hb dX0_row_4 (by decide) (fun c2 => ?_) (fun c2 => ?_)
  · have hf := q_t hf c2
    refine lv_aload_n hx hb dX0_row_22 rfl (lv_at hl 0 rfl) ?_
    refine lv_bipush (v := (-2)) hx hb dX0_row_23 (by decide) ?_
    obtain ⟨r3, X4, hc4, hf⟩ := q_b2s hf
    have hp4 : List.Perm [xW g adX (adN 0) (adT 0) iX X, pW g LR so rn ri rl] ([xW g adX (adN 0) (adT 0) iX X] ++ [pW g LR so rn ri rl]) := b_perm [0] [1] 2 rfl rfl rfl rfl
    refine b_call0 ⟨rfl, rfl⟩ (va_runV (As := [.int (-2)]) (rest := []) ⟨hx, hb, hml, hown, hts⟩ (m_X0_no l D g H.size adX iX adN adT X (-2) r3 X4 hc4) (cwV 1 hts (lw_V q347 q349 qs2 q76 q350) rfl rfl rfl (by decide +kernel) ⟨Nat.le_of_ble_eq_true rfl, Nat.le_of_ble_eq_true rfl⟩) (b_preV (pp := 0) (q := 0) hW hp4 rfl xW_0 rfl) rfl rfl hl.1 rfl (lv_room (Nat.le_of_ble_eq_true rfl)) dX0_row_25 ⟨Nat.le_of_ble_eq_true rfl, Nat.le_of_ble_eq_true rfl⟩) hW hp4 (fun _ _ H locs hW => ?_)
    have hW : bW D g A s H locs [xW g adX (adN 0) (adT 0) iX X4, pW g LR so rn ri rl] := hW
    refine b_toQ hE (fun Q hE => ?_)
    refine W.widen (k := 3) (n := 54) (by decide) (by decide) ?_
    exact b_iret hx hb hr hlk hE hW (r3, X4, LR, so, rn, ri, rl) rfl hf rfl dX0_row_28
  · have hf := q_f hf c2
    refine lv_iload_n hx hb dX0_row_7 rfl (lv_at hl 2 rfl) ?_
    refine lv_if_lt (tgt := 22) hx hb dX0_row_8 (by decide) (fun c5 => ?_) (fun c5 => ?_)
    · have hf := q_t hf c5
      refine lv_aload_n hx hb dX0_row_22 rfl (lv_at hl 0 rfl) ?_
      refine lv_bipush (v := (-2)) hx hb dX0_row_23 (by decide) ?_
      obtain ⟨r6, X7, hc7, hf⟩ := q_b2s hf
      have hp7 : List.Perm [xW g adX (adN 0) (adT 0) iX X, pW g LR so rn ri rl] ([xW g adX (adN 0) (adT 0) iX X] ++ [pW g LR so rn ri rl]) := b_perm [0] [1] 2 rfl rfl rfl rfl
      refine b_call0 ⟨rfl, rfl⟩ (va_runV (As := [.int (-2)]) (rest := []) ⟨hx, hb, hml, hown, hts⟩ (m_X0_no l D g H.size adX iX adN adT X (-2) r6 X7 hc7) (cwV 1 hts (lw_V q347 q349 qs2 q76 q350) rfl rfl rfl (by decide +kernel) ⟨Nat.le_of_ble_eq_true rfl, Nat.le_of_ble_eq_true rfl⟩) (b_preV (pp := 0) (q := 0) hW hp7 rfl xW_0 rfl) rfl rfl hl.1 rfl (lv_room (Nat.le_of_ble_eq_true rfl)) dX0_row_25 ⟨Nat.le_of_ble_eq_true rfl, Nat.le_of_ble_eq_true rfl⟩) hW hp7 (fun _ _ H locs hW => ?_)
      have hW : bW D g A s H locs [xW g adX (adN 0) (adT 0) iX X7, pW g LR so rn ri rl] := hW
      refine b_toQ hE (fun Q hE => ?_)
      refine W.widen (k := 3) (n := 54) (by decide) (by decide) ?_
      exact b_iret hx hb hr hlk hE hW (r6, X7, LR, so, rn, ri, rl) rfl hf rfl dX0_row_28
    · have hf := q_f hf c5
      refine lv_iload_n hx hb dX0_row_11 rfl (lv_at hl 2 rfl) ?_
      refine lv_iconst (v := 4) hx hb dX0_row_12 (by decide) ?_
      refine lv_icmp_gt (tgt := 22) hx hb dX0_row_13 (by decide) (fun c8 => ?_) (fun c8 => ?_)
      · have hf := q_t hf c8
        refine lv_aload_n hx hb dX0_row_22 rfl (lv_at hl 0 rfl) ?_
        refine lv_bipush (v := (-2)) hx hb dX0_row_23 (by decide) ?_
        obtain ⟨r9, X10, hc10, hf⟩ := q_b2s hf
        have hp10 : List.Perm [xW g adX (adN 0) (adT 0) iX X, pW g LR so rn ri rl] ([xW g adX (adN 0) (adT 0) iX X] ++ [pW g LR so rn ri rl]) := b_perm [0] [1] 2 rfl rfl rfl rfl
        refine b_call0 ⟨rfl, rfl⟩ (va_runV (As := [.int (-2)]) (rest := []) ⟨hx, hb, hml, hown, hts⟩ (m_X0_no l D g H.size adX iX adN adT X (-2) r9 X10 hc10) (cwV 1 hts (lw_V q347 q349 qs2 q76 q350) rfl rfl rfl (by decide +kernel) ⟨Nat.le_of_ble_eq_true rfl, Nat.le_of_ble_eq_true rfl⟩) (b_preV (pp := 0) (q := 0) hW hp10 rfl xW_0 rfl) rfl rfl hl.1 rfl (lv_room (Nat.le_of_ble_eq_true rfl)) dX0_row_25 ⟨Nat.le_of_ble_eq_true rfl, Nat.le_of_ble_eq_true rfl⟩) hW hp10 (fun _ _ H locs hW => ?_)
        have hW : bW D g A s H locs [xW g adX (adN 0) (adT 0) iX X10, pW g LR so rn ri rl] := hW
        refine b_toQ hE (fun Q hE => ?_)
        refine W.widen (k := 3) (n := 54) (by decide) (by decide) ?_
        exact b_iret hx hb hr hlk hE hW (r9, X10, LR, so, rn, ri, rl) rfl hf rfl dX0_row_28
      · have hf := q_f hf c8
        refine lv_iload_n hx hb dX0_row_16 rfl (lv_at hl 3 rfl) ?_
        refine lv_bipush (v := 40) hx hb dX0_row_17 (by decide) ?_
        refine lv_icmp_le (tgt := 29) hx hb dX0_row_19 (by decide) (fun c11 => ?_) (fun c11 => ?_)
        · have hf := q_t hf c11
          refine lv_aload_n hx hb dX0_row_29 rfl (lv_at hl 0 rfl) ?_
          refine b_get hx hb hts in_X0 hown hW 0 0 0 3 rfl xW_0 rfl (by decide) ⟨rfl, rfl, rfl⟩ (hts _ q230) xW_g3 dX0_row_30 ?_
          refine lv_iload_n hx hb dX0_row_33 rfl (lv_at hl 1 rfl) ?_
          obtain ⟨h12, hf⟩ := q_cs hf
          refine b_aald hx hb hW 0 1 6 rfl xW_1 rfl h12 dX0_row_34 ?_
          refine W.eq (g2 := F0 m 35 ls [.ref (adX (2 + ix x1))]) rfl ?_
          refine lv_iload_n hx hb dX0_row_35 rfl (lv_at hl 2 rfl) ?_
          refine lv_iload_n hx hb dX0_row_36 rfl (lv_at hl 3 rfl) ?_
          have hp13 : List.Perm ([xW g adX (adN 0) (adT 0) iX X, pW g LR so rn ri rl] : List va_W) ([] ++ [xW g adX (adN 0) (adT 0) iX X, pW g LR so rn ri rl]) := List.Perm.refl _
          refine b_callX (vx_runS (As := [.int x2, .int x3]) (rest := [.ref (adX (2 + ix x1))]) ⟨hx, hb, hml, hown, hts⟩ (m_X0_rowOf l hst D g H.size x2 x3 c11) (va_cwS 2 hts (lw_S q351 q352 q76 q353) rfl rfl rfl (by decide +kernel) ⟨Nat.le_of_ble_eq_true rfl, Nat.le_of_ble_eq_true rfl⟩) (b_preS hW hp13) rfl rfl hl.1 rfl (lv_room (Nat.le_of_ble_eq_true rfl)) dX0_row_37 ⟨Nat.le_of_ble_eq_true rfl, Nat.le_of_ble_eq_true rfl⟩) hW hp13 (fun E q13 ce13 _ hok H locs hW hcell hcv hcl => ?_) (fun z14 hnn H locs hW => ?_)
          · obtain ⟨hE9, hneg⟩ := hok; subst hE9; have hf := q_t hf hneg
            have hW : bW D g A s H locs [xW g adX (adN 0) (adT 0) iX X, pW g LR so rn ri rl] := hW
            refine vx_catch hown [] ⟨29, 43, 46, 104⟩ [] (htab.trans rfl) (fun z hz => nomatch hz) (by decide) (by decide) (hts _ q253) (b_castC hW.2.2.2.2.2 0 rfl) hcell hcv hcl ?_
            refine W.cs (cells' := 3) (slots' := 54) rfl rfl ?_
            refine lv_astore (lv' := [(4, .ref q13), (0, .ref (adX 0)), (1, .int x1), (2, .int x2), (3, .int x3)]) hx hb dX0_row_46 hl (by decide) rfl (fun ls hl => ?_)
            refine lv_aload_n hx hb dX0_row_48 rfl (lv_at hl 1 rfl) ?_
            refine lv_bipush (v := (-2)) hx hb dX0_row_49 (by decide) ?_
            obtain ⟨r15, X16, hc16, hf⟩ := q_b2s hf
            have hp16 : List.Perm [xW g adX (adN 0) (adT 0) iX X, pW g LR so rn ri rl] ([xW g adX (adN 0) (adT 0) iX X] ++ [pW g LR so rn ri rl]) := b_perm [0] [1] 2 rfl rfl rfl rfl
            refine b_call0 ⟨rfl, rfl⟩ (va_runV (As := [.int (-2)]) (rest := []) ⟨hx, hb, hml, hown, hts⟩ (m_X0_no l D g H.size adX iX adN adT X (-2) r15 X16 hc16) (cwV 1 hts (lw_V q347 q349 qs2 q76 q350) rfl rfl rfl (by decide +kernel) ⟨Nat.le_of_ble_eq_true rfl, Nat.le_of_ble_eq_true rfl⟩) (b_preV (pp := 0) (q := 0) hW hp16 rfl xW_0 rfl) rfl rfl hl.1 rfl (lv_room (Nat.le_of_ble_eq_true rfl)) dX0_row_51 ⟨Nat.le_of_ble_eq_true rfl, Nat.le_of_ble_eq_true rfl⟩) hW hp16 (fun _ _ H locs hW => ?_)
            have hW : bW D g A s H locs [xW g adX (adN 0) (adT 0) iX X16, pW g LR so rn ri rl] := hW
            refine b_toQ hE (fun Q hE => ?_)
            refine W.widen (k := 3) (n := 54) (by decide) (by decide) ?_
            exact b_iret hx hb hr hlk hE hW (r15, X16, LR, so, rn, ri, rl) rfl hf rfl dX0_row_54
          · have hf := q_f hf hnn
            refine W.cs (cells' := 3) (slots' := 54) rfl rfl ?_
            have hW : bW D g A s H locs ([(z14, rE g (rQ x2) (ix x3) (fun _ => 0) (fun _ => 0))] :: [xW g adX (adN 0) (adT 0) iX X, pW g LR so rn ri rl]) := hW
            have hW := b_perms hW (Bs' := pW g LR so rn ri rl :: [(z14, rE g (rQ x2) (ix x3) (fun _ => 0) (fun _ => 0))] :: [xW g adX (adN 0) (adT 0) iX X]) (b_ord [2, 0, 1] 3 rfl rfl rfl)
            obtain ⟨hz14, hW⟩ := r_push hW
            have hf := q_als hf hz14
            obtain ⟨LR17, eLR17, hf⟩ := q_ls hf
            rw [eLR17] at hW
            obtain ⟨so18, eso18, hf⟩ := q_ls hf
            rw [eso18] at hW
            obtain ⟨rn19, ern19, hf⟩ := q_ls hf
            rw [ern19] at hW
            obtain ⟨ri20, eri20, hf⟩ := q_ls hf
            rw [eri20] at hW
            obtain ⟨rl21, erl21, hf⟩ := q_ls hf
            rw [erl21] at hW
            have hW : bW D g A s H locs [pW g LR17 so18 rn19 ri20 rl21, xW g adX (adN 0) (adT 0) iX X] := hW
            obtain ⟨X22, eX22, hf⟩ := q_ls hf
            refine b_put hx hb hts in_X2 tyX2 tyX2_ok nmX2 hown hW 1 (2 + ix x1) 2 0 (v := .ref z14) rfl (xW_r2 (inB_lt h12)) (xW_rs2 (x := some z14) (inB_lt h12) eX22) rfl rfl (by decide) ⟨rfl, rfl, rfl⟩ (hts _ q222) rfl (ty := .object "java/lang/Object") rfl rfl rfl Nat.zero_lt_one dX0_row_40 (fun H locs hW => ?_)
            have hW : bW D g A s H locs [pW g LR17 so18 rn19 ri20 rl21, xW g adX (adN 0) (adT 0) iX X22] := hW
            refine lv_goto (tgt := 55) hx hb dX0_row_43 (by decide) ?_
            refine lv_iconst (v := 1) hx hb dX0_row_55 (by decide) ?_
            refine b_toQ hE (fun Q hE => ?_)
            refine W.widen (k := 3) (n := 54) (by decide) (by decide) ?_
            exact b_iret hx hb hr hlk hE (b_perms hW (b_ord [1, 0] 2 rfl rfl rfl)) (1, X22, LR17, so18, rn19, ri20, rl21) rfl hf rfl dX0_row_56
        · have hf := q_f hf c11
          refine lv_aload_n hx hb dX0_row_22 rfl (lv_at hl 0 rfl) ?_
          refine lv_bipush (v := (-2)) hx hb dX0_row_23 (by decide) ?_
          obtain ⟨r23, X24, hc24, hf⟩ := q_b2s hf
          have hp24 : List.Perm [xW g adX (adN 0) (adT 0) iX X, pW g LR so rn ri rl] ([xW g adX (adN 0) (adT 0) iX X] ++ [pW g LR so rn ri rl]) := b_perm [0] [1] 2 rfl rfl rfl rfl
          refine b_call0 ⟨rfl, rfl⟩ (va_runV (As := [.int (-2)]) (rest := []) ⟨hx, hb, hml, hown, hts⟩ (m_X0_no l D g H.size adX iX adN adT X (-2) r23 X24 hc24) (cwV 1 hts (lw_V q347 q349 qs2 q76 q350) rfl rfl rfl (by decide +kernel) ⟨Nat.le_of_ble_eq_true rfl, Nat.le_of_ble_eq_true rfl⟩) (b_preV (pp := 0) (q := 0) hW hp24 rfl xW_0 rfl) rfl rfl hl.1 rfl (lv_room (Nat.le_of_ble_eq_true rfl)) dX0_row_25 ⟨Nat.le_of_ble_eq_true rfl, Nat.le_of_ble_eq_true rfl⟩) hW hp24 (fun _ _ H locs hW => ?_)
          have hW : bW D g A s H locs [xW g adX (adN 0) (adT 0) iX X24, pW g LR so rn ri rl] := hW
          refine b_toQ hE (fun Q hE => ?_)
          refine W.widen (k := 3) (n := 54) (by decide) (by decide) ?_
          exact b_iret hx hb hr hlk hE hW (r23, X24, LR, so, rn, ri, rl) rfl hf rfl dX0_row_28
