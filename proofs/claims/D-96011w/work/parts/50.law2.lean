/-! THE LAW's cases: printed by gen/lawg.py -/
set_option maxRecDepth 100000
def lf_15 (X : BC) (N : BC) (T : BC) (Yo : Option BC) (L : List Nat) (kd : Nat → Nat) (nu : Nat → Int32) (aa : Nat → Int32) (LR : List Nat) (so : Nat → Nat) (rn : Nat → Nat) (ri : Nat → Nat → Int32) (rl : Nat → Nat → Int64) (M : BC) (Ko : Option BC) (To : Option BC) (x1 : Int32) (post : lwPT) : Prop :=
 q_b2 (f_X0_feed X x1) fun (r1 : Int32) (X2 : BC) =>
 q_b2 (f_X3_feed M x1) fun (r5 : Int32) (M6 : BC) =>
 q_ck (decide (r1 = r5)) (post X2 N T Yo L kd nu aa LR so rn ri rl M6 Ko To)
set_option maxHeartbeats 4000000 in
set_option maxRecDepth 100000 in
theorem lc_15 {p : Program} {l : Launch} {e : Env} {s : State} {m : MethodId} {below : List Frame} {meth : Method} {c : Code} {H : Heap} {locs : List Loc} {cells slots b len n : Nat} {Q : State → Prop} {xs : Nat → Int32} {adX adT adM adN : Nat → Nat} {tY tK tQ : Option ((Nat → Nat) × BC)} {ls : Array Slot} {D : va_G} {g : Nat → ClassId} {A : Nat → Prop} {X N T : BC} {L : List Nat} {kd : Nat → Nat} {nu aa : Nat → Int32} {LR : List Nat} {so rn : Nat → Nat} {ri : Nat → Nat → Int32} {rl : Nat → Nat → Int64} {M : BC} {fu : Nat} {post : lwPT} (C : lwC p l s m b c A ls adX adM len n xs) (hcs : cells + 10000 ≤ 1200384 ∧ slots + 80000 ≤ 5497258) (hW : bW D g A s H locs (lwB g adX adN adT tY adM tK tQ X N T L kd nu aa LR so rn ri rl M)) (hf : lf_15 X N T (tY.map Prod.snd) L kd nu aa LR so rn ri rl M (tK.map Prod.snd) (tQ.map Prod.snd) (xs (n + 1)) post) (kk : lwK p l e s m b below meth c D g A adX adT adM ls Q cells slots post) : W p l e room_1 s m #[.ref b] below meth c H locs cells slots Q (F0 m 852 ls []) := by
  have C0 := C
  obtain ⟨hx, hb, hml, hown, hts, hst, -, -, -, -, -, hl⟩ := C0
  rw [lf_15] at hf
  have hW : bW D g A s H locs [xW g adX (adN 0) (adT 0) (o_a tY) X, vW g adN N, vW g adT T, oV g tY, gW L kd nu aa, pW g LR so rn ri rl, mW g adM (o_a tK) (o_a tQ) M, oM g tK, oM g tQ] := hW
  refine lv_aload_n hx hb dL_law_852 rfl (lv_at hl 1 rfl) ?_
  refine lw_arg C hW 1 (K := 1) rfl (by decide) dL_law_853 dL_law_854 dL_law_855 dL_law_856 dL_law_857 ?_
  obtain ⟨r1, X2, hc3, hf⟩ := q_b2s hf
  have hp4 : List.Perm (α := va_W) [xW g adX (adN 0) (adT 0) (o_a tY) X, vW g adN N, vW g adT T, oV g tY, gW L kd nu aa, pW g LR so rn ri rl, mW g adM (o_a tK) (o_a tQ) M, oM g tK, oM g tQ] ([xW g adX (adN 0) (adT 0) (o_a tY) X] ++ [vW g adN N, vW g adT T, oV g tY, gW L kd nu aa, pW g LR so rn ri rl, mW g adM (o_a tK) (o_a tQ) M, oM g tK, oM g tQ]) := b_perm [0] [1, 2, 3, 4, 5, 6, 7, 8] 9 rfl rfl rfl rfl
  refine b_call0 ⟨rfl, rfl⟩ (va_runV (As := [.int (xs (n + 1))]) (rest := []) ⟨hx, hb, hml, hown, hts⟩ (m_X0_feed l D g H.size adX (o_a tY) adN adT X (xs (n + 1)) r1 X2 hc3) (cwV 1 hts (lw_V q712 q713 q714 q76 q715) rfl rfl rfl (by decide +kernel) ⟨Nat.le_of_ble_eq_true rfl, Nat.le_of_ble_eq_true rfl⟩) (b_preV (pp := 0) (q := 0) hW hp4 rfl xW_0 rfl) rfl rfl hl.1 rfl (lv_room (Nat.le_of_ble_eq_true rfl)) dL_law_858 ⟨(show cells + 0 ≤ 1200384 from by (omega)), (show slots + 0 ≤ 5497258 from by (omega))⟩) hW hp4 (fun _ _ H locs hW => ?_)
  have hW : bW D g A s H locs [xW g adX (adN 0) (adT 0) (o_a tY) X2, vW g adN N, vW g adT T, oV g tY, gW L kd nu aa, pW g LR so rn ri rl, mW g adM (o_a tK) (o_a tQ) M, oM g tK, oM g tQ] := hW
  refine lv_aload_n hx hb dL_law_861 rfl (lv_at hl 2 rfl) ?_
  refine lw_arg C hW 1 (K := 1) rfl (by decide) dL_law_862 dL_law_863 dL_law_864 dL_law_865 dL_law_866 ?_
  obtain ⟨r5, M6, hc7, hf⟩ := q_b2s hf
  have hp8 : List.Perm (α := va_W) [xW g adX (adN 0) (adT 0) (o_a tY) X2, vW g adN N, vW g adT T, oV g tY, gW L kd nu aa, pW g LR so rn ri rl, mW g adM (o_a tK) (o_a tQ) M, oM g tK, oM g tQ] ([mW g adM (o_a tK) (o_a tQ) M] ++ [xW g adX (adN 0) (adT 0) (o_a tY) X2, vW g adN N, vW g adT T, oV g tY, gW L kd nu aa, pW g LR so rn ri rl, oM g tK, oM g tQ]) := b_perm [6] [0, 1, 2, 3, 4, 5, 7, 8] 9 rfl rfl rfl rfl
  refine b_call0 ⟨rfl, rfl⟩ (va_runV (As := [.int (xs (n + 1))]) (rest := [.int r1]) ⟨hx, hb, hml, hown, hts⟩ (m_X3_feed l D g H.size adM (o_a tK) (o_a tQ) M (xs (n + 1)) r5 M6 hc7) (cwV 1 hts (lw_V q1688 q1689 q1690 q79 q1691) rfl rfl rfl (by decide +kernel) ⟨Nat.le_of_ble_eq_true rfl, Nat.le_of_ble_eq_true rfl⟩) (b_preV (pp := 6) (q := 0) hW hp8 rfl mW_0 rfl) rfl rfl hl.1 rfl (lv_room (Nat.le_of_ble_eq_true rfl)) dL_law_867 ⟨(show cells + 0 ≤ 1200384 from by (omega)), (show slots + 0 ≤ 5497258 from by (omega))⟩) hW hp8 (fun _ _ H locs hW => ?_)
  have hW : bW D g A s H locs [mW g adM (o_a tK) (o_a tQ) M6, xW g adX (adN 0) (adT 0) (o_a tY) X2, vW g adN N, vW g adT T, oV g tY, gW L kd nu aa, pW g LR so rn ri rl, oM g tK, oM g tQ] := hW
  obtain ⟨he9, hf⟩ := q_cs hf; have he9 := of_decide_eq_true he9
  refine lv_icmp_eq (tgt := 1948) hx hb dL_law_870 (by decide) (fun _ => ?_) (fun hne => absurd he9 hne)
  exact kk adN tY tK tQ X2 N T L kd nu aa LR so rn ri rl M6 _ _ _ _ hf (b_perms (Bs' := [xW g adX (adN 0) (adT 0) (o_a tY) X2, vW g adN N, vW g adT T, oV g tY, gW L kd nu aa, pW g LR so rn ri rl, mW g adM (o_a tK) (o_a tQ) M6, oM g tK, oM g tQ]) hW (b_ord [1, 2, 3, 4, 5, 6, 0, 7, 8] 9 rfl rfl rfl)) (by (omega)) (by (omega))
def lf_16 (X : BC) (N : BC) (T : BC) (Yo : Option BC) (L : List Nat) (kd : Nat → Nat) (nu : Nat → Int32) (aa : Nat → Int32) (LR : List Nat) (so : Nat → Nat) (rn : Nat → Nat) (ri : Nat → Nat → Int32) (rl : Nat → Nat → Int64) (M : BC) (Ko : Option BC) (To : Option BC) (post : lwPT) : Prop :=
 q_b2 (f_X0_wipe X) fun (r1 : Int32) (X2 : BC) =>
 q_b2 (f_X3_wipe M) fun (r5 : Int32) (M6 : BC) =>
 q_ck (decide (r1 = r5)) (post X2 N T Yo L kd nu aa LR so rn ri rl M6 Ko To)
set_option maxHeartbeats 4000000 in
set_option maxRecDepth 100000 in
theorem lc_16 {p : Program} {l : Launch} {e : Env} {s : State} {m : MethodId} {below : List Frame} {meth : Method} {c : Code} {H : Heap} {locs : List Loc} {cells slots b len n : Nat} {Q : State → Prop} {xs : Nat → Int32} {adX adT adM adN : Nat → Nat} {tY tK tQ : Option ((Nat → Nat) × BC)} {ls : Array Slot} {D : va_G} {g : Nat → ClassId} {A : Nat → Prop} {X N T : BC} {L : List Nat} {kd : Nat → Nat} {nu aa : Nat → Int32} {LR : List Nat} {so rn : Nat → Nat} {ri : Nat → Nat → Int32} {rl : Nat → Nat → Int64} {M : BC} {fu : Nat} {post : lwPT} (C : lwC p l s m b c A ls adX adM len n xs) (hcs : cells + 10000 ≤ 1200384 ∧ slots + 80000 ≤ 5497258) (hW : bW D g A s H locs (lwB g adX adN adT tY adM tK tQ X N T L kd nu aa LR so rn ri rl M)) (hf : lf_16 X N T (tY.map Prod.snd) L kd nu aa LR so rn ri rl M (tK.map Prod.snd) (tQ.map Prod.snd) post) (kk : lwK p l e s m b below meth c D g A adX adT adM ls Q cells slots post) : W p l e room_1 s m #[.ref b] below meth c H locs cells slots Q (F0 m 875 ls []) := by
  have C0 := C
  obtain ⟨hx, hb, hml, hown, hts, hst, -, -, -, -, -, hl⟩ := C0
  rw [lf_16] at hf
  have hW : bW D g A s H locs [xW g adX (adN 0) (adT 0) (o_a tY) X, vW g adN N, vW g adT T, oV g tY, gW L kd nu aa, pW g LR so rn ri rl, mW g adM (o_a tK) (o_a tQ) M, oM g tK, oM g tQ] := hW
  refine lv_aload_n hx hb dL_law_875 rfl (lv_at hl 1 rfl) ?_
  obtain ⟨r1, X2, hc3, hf⟩ := q_b2s hf
  have hp4 : List.Perm (α := va_W) [xW g adX (adN 0) (adT 0) (o_a tY) X, vW g adN N, vW g adT T, oV g tY, gW L kd nu aa, pW g LR so rn ri rl, mW g adM (o_a tK) (o_a tQ) M, oM g tK, oM g tQ] ([xW g adX (adN 0) (adT 0) (o_a tY) X] ++ [vW g adN N, vW g adT T, oV g tY, gW L kd nu aa, pW g LR so rn ri rl, mW g adM (o_a tK) (o_a tQ) M, oM g tK, oM g tQ]) := b_perm [0] [1, 2, 3, 4, 5, 6, 7, 8] 9 rfl rfl rfl rfl
  refine b_call0 ⟨rfl, rfl⟩ (va_runV (As := []) (rest := []) ⟨hx, hb, hml, hown, hts⟩ (m_X0_wipe l D g H.size adX (o_a tY) adN adT X r1 X2 hc3) (cwV 0 hts (lw_V q716 q717 q718 q76 q719) rfl rfl rfl (by decide +kernel) ⟨Nat.le_of_ble_eq_true rfl, Nat.le_of_ble_eq_true rfl⟩) (b_preV (pp := 0) (q := 0) hW hp4 rfl xW_0 rfl) rfl rfl hl.1 rfl (lv_room (Nat.le_of_ble_eq_true rfl)) dL_law_876 ⟨(show cells + 0 ≤ 1200384 from by (omega)), (show slots + 0 ≤ 5497258 from by (omega))⟩) hW hp4 (fun _ _ H locs hW => ?_)
  have hW : bW D g A s H locs [xW g adX (adN 0) (adT 0) (o_a tY) X2, vW g adN N, vW g adT T, oV g tY, gW L kd nu aa, pW g LR so rn ri rl, mW g adM (o_a tK) (o_a tQ) M, oM g tK, oM g tQ] := hW
  refine lv_aload_n hx hb dL_law_879 rfl (lv_at hl 2 rfl) ?_
  obtain ⟨r5, M6, hc7, hf⟩ := q_b2s hf
  have hp8 : List.Perm (α := va_W) [xW g adX (adN 0) (adT 0) (o_a tY) X2, vW g adN N, vW g adT T, oV g tY, gW L kd nu aa, pW g LR so rn ri rl, mW g adM (o_a tK) (o_a tQ) M, oM g tK, oM g tQ] ([mW g adM (o_a tK) (o_a tQ) M] ++ [xW g adX (adN 0) (adT 0) (o_a tY) X2, vW g adN N, vW g adT T, oV g tY, gW L kd nu aa, pW g LR so rn ri rl, oM g tK, oM g tQ]) := b_perm [6] [0, 1, 2, 3, 4, 5, 7, 8] 9 rfl rfl rfl rfl
  refine b_call0 ⟨rfl, rfl⟩ (va_runV (As := []) (rest := [.int r1]) ⟨hx, hb, hml, hown, hts⟩ (m_X3_wipe l D g H.size adM (o_a tK) (o_a tQ) M r5 M6 hc7) (cwV 0 hts (lw_V q1693 q1694 q1695 q79 q1696) rfl rfl rfl (by decide +kernel) ⟨Nat.le_of_ble_eq_true rfl, Nat.le_of_ble_eq_true rfl⟩) (b_preV (pp := 6) (q := 0) hW hp8 rfl mW_0 rfl) rfl rfl hl.1 rfl (lv_room (Nat.le_of_ble_eq_true rfl)) dL_law_880 ⟨(show cells + 0 ≤ 1200384 from by (omega)), (show slots + 0 ≤ 5497258 from by (omega))⟩) hW hp8 (fun _ _ H locs hW => ?_)
  have hW : bW D g A s H locs [mW g adM (o_a tK) (o_a tQ) M6, xW g adX (adN 0) (adT 0) (o_a tY) X2, vW g adN N, vW g adT T, oV g tY, gW L kd nu aa, pW g LR so rn ri rl, oM g tK, oM g tQ] := hW
  obtain ⟨he9, hf⟩ := q_cs hf; have he9 := of_decide_eq_true he9
  refine lv_icmp_eq (tgt := 1948) hx hb dL_law_883 (by decide) (fun _ => ?_) (fun hne => absurd he9 hne)
  exact kk adN tY tK tQ X2 N T L kd nu aa LR so rn ri rl M6 _ _ _ _ hf (b_perms (Bs' := [xW g adX (adN 0) (adT 0) (o_a tY) X2, vW g adN N, vW g adT T, oV g tY, gW L kd nu aa, pW g LR so rn ri rl, mW g adM (o_a tK) (o_a tQ) M6, oM g tK, oM g tQ]) hW (b_ord [1, 2, 3, 4, 5, 6, 0, 7, 8] 9 rfl rfl rfl)) (by (omega)) (by (omega))
def lf_17 (fu : Nat) (g : Nat → Nat) (X : BC) (N : BC) (T : BC) (Yo : Option BC) (L : List Nat) (kd : Nat → Nat) (nu : Nat → Int32) (aa : Nat → Int32) (LR : List Nat) (so : Nat → Nat) (rn : Nat → Nat) (ri : Nat → Nat → Int32) (rl : Nat → Nat → Int64) (M : BC) (Ko : Option BC) (To : Option BC) (post : lwPT) : Prop :=
 f_X0_valley fu g X N L kd nu aa (fun (r3 : Int32) (X4 : BC) (N5 : BC) (L6 : List Nat) (kd7 : Nat → Nat) (nu8 : Nat → Int32) (aa9 : Nat → Int32) =>
 q_b3 (f_X3_valley fu M To) fun (r11 : Int32) (M12 : BC) (TO13 : Option BC) =>
 q_ck (decide (r3 = r11)) (post X4 N5 T Yo L6 kd7 nu8 aa9 LR so rn ri rl M12 Ko TO13))
set_option maxHeartbeats 4000000 in
set_option maxRecDepth 100000 in
theorem lc_17 {p : Program} {l : Launch} {e : Env} {s : State} {m : MethodId} {below : List Frame} {meth : Method} {c : Code} {H : Heap} {locs : List Loc} {cells slots b len n : Nat} {Q : State → Prop} {xs : Nat → Int32} {adX adT adM adN : Nat → Nat} {tY tK tQ : Option ((Nat → Nat) × BC)} {ls : Array Slot} {D : va_G} {g : Nat → ClassId} {A : Nat → Prop} {X N T : BC} {L : List Nat} {kd : Nat → Nat} {nu aa : Nat → Int32} {LR : List Nat} {so rn : Nat → Nat} {ri : Nat → Nat → Int32} {rl : Nat → Nat → Int64} {M : BC} {fu : Nat} {post : lwPT} (C : lwC p l s m b c A ls adX adM len n xs) (hcs : cells + 10000 ≤ 1200384 ∧ slots + 80000 ≤ 5497258) (hW : bW D g A s H locs (lwB g adX adN adT tY adM tK tQ X N T L kd nu aa LR so rn ri rl M)) (hf : lf_17 fu g X N T (tY.map Prod.snd) L kd nu aa LR so rn ri rl M (tK.map Prod.snd) (tQ.map Prod.snd) post) (kk : lwK p l e s m b below meth c D g A adX adT adM ls Q cells slots post) : W p l e room_1 s m #[.ref b] below meth c H locs cells slots Q (F0 m 888 ls []) := by
  have C0 := C
  obtain ⟨hx, hb, hml, hown, hts, hst, -, -, -, -, -, hl⟩ := C0
  rw [lf_17] at hf
  have hW : bW D g A s H locs [xW g adX (adN 0) (adT 0) (o_a tY) X, vW g adN N, vW g adT T, oV g tY, gW L kd nu aa, pW g LR so rn ri rl, mW g adM (o_a tK) (o_a tQ) M, oM g tK, oM g tQ] := hW
  refine lv_aload_n hx hb dL_law_888 rfl (lv_at hl 1 rfl) ?_
  have hp1 : List.Perm (α := va_W) [xW g adX (adN 0) (adT 0) (o_a tY) X, vW g adN N, vW g adT T, oV g tY, gW L kd nu aa, pW g LR so rn ri rl, mW g adM (o_a tK) (o_a tQ) M, oM g tK, oM g tQ] ([xW g adX (adN 0) (adT 0) (o_a tY) X, vW g adN N, gW L kd nu aa] ++ [vW g adT T, oV g tY, pW g LR so rn ri rl, mW g adM (o_a tK) (o_a tQ) M, oM g tK, oM g tQ]) := b_perm [0, 1, 4] [2, 3, 5, 6, 7, 8] 9 rfl rfl rfl rfl
  refine b_callX (vx_runVX (As := []) (rest := []) ⟨hx, hb, hml, hown, hts⟩ (m_X0_valley l D g H.size adX adN adT (o_a tY) fu X N L kd nu aa _ hf) (vx_cwVW 0 hts (lw_VW q720 q721 q722 q76 q723) rfl rfl rfl (by decide +kernel) ⟨Nat.le_of_ble_eq_true rfl, Nat.le_of_ble_eq_true rfl⟩) (b_preV (pp := 0) (q := 0) hW hp1 rfl xW_0 rfl) rfl rfl hl.1 rfl (lv_room (Nat.le_of_ble_eq_true rfl)) dL_law_889 ⟨(show cells + 2095 ≤ 1200384 from by (omega)), (show slots + 69057 ≤ 5497258 from by (omega))⟩) hW hp1 (fun E q ce u hok H locs hW hcell hcv hcl => hok.elim) (fun u2 hf H locs hW => ?_)
  refine W.cs (cells' := (cells + 2095)) (slots' := (slots + 69057)) rfl rfl ?_
  obtain ⟨r3, X4, N5, L6, kd7, nu8, aa9, adN10⟩ := u2; try dsimp only at hf hW ⊢
  have hW : bW D g A s H locs [xW g adX (adN10 0) (adT 0) (o_a tY) X4, vW g adN10 N5, gW L6 kd7 nu8 aa9, vW g adT T, oV g tY, pW g LR so rn ri rl, mW g adM (o_a tK) (o_a tQ) M, oM g tK, oM g tQ] := hW
  refine lv_aload_n hx hb dL_law_892 rfl (lv_at hl 2 rfl) ?_
  obtain ⟨r11, M12, TO13, hc14, hf⟩ := q_b3s hf
  have hp15 : List.Perm (α := va_W) [xW g adX (adN10 0) (adT 0) (o_a tY) X4, vW g adN10 N5, gW L6 kd7 nu8 aa9, vW g adT T, oV g tY, pW g LR so rn ri rl, mW g adM (o_a tK) (o_a tQ) M, oM g tK, oM g tQ] ([mW g adM (o_a tK) (o_a tQ) M, oM g tQ] ++ [xW g adX (adN10 0) (adT 0) (o_a tY) X4, vW g adN10 N5, gW L6 kd7 nu8 aa9, vW g adT T, oV g tY, pW g LR so rn ri rl, oM g tK]) := b_perm [6, 8] [0, 1, 2, 3, 4, 5, 7] 9 rfl rfl rfl rfl
  refine b_call (va_runV (As := []) (rest := [.int r3]) ⟨hx, hb, hml, hown, hts⟩ (m_X3_valley l D g H.size adM (o_a tK) tQ fu M r11 M12 TO13 hc14) (cwV 0 hts (lw_V q1697 q1698 q1699 q79 q1700) rfl rfl rfl (by decide +kernel) ⟨Nat.le_of_ble_eq_true rfl, Nat.le_of_ble_eq_true rfl⟩) (b_preV (pp := 6) (q := 0) hW hp15 rfl mW_0 rfl) rfl rfl hl.1 rfl (lv_room (Nat.le_of_ble_eq_true rfl)) dL_law_893 ⟨(show (cells + 2095) + (o_k 45 tQ) ≤ 1200384 from by (have := lw_k 45 tQ; have := lw_k 842 tQ; omega)), (show (slots + 69057) + (o_k 842 tQ) ≤ 5497258 from by (have := lw_k 45 tQ; have := lw_k 842 tQ; omega))⟩) hW hp15 (fun tq16 htq17 H locs hW => ?_)
  subst htq17
  refine W.cs (cells' := ((cells + 2095) + (o_k 45 tQ))) (slots' := ((slots + 69057) + (o_k 842 tQ))) rfl rfl ?_
  have hW : bW D g A s H locs [mW g adM (o_a tK) (o_a tq16) M12, oM g tq16, xW g adX (adN10 0) (adT 0) (o_a tY) X4, vW g adN10 N5, gW L6 kd7 nu8 aa9, vW g adT T, oV g tY, pW g LR so rn ri rl, oM g tK] := hW
  obtain ⟨he18, hf⟩ := q_cs hf; have he18 := of_decide_eq_true he18
  refine lv_icmp_eq (tgt := 1948) hx hb dL_law_896 (by decide) (fun _ => ?_) (fun hne => absurd he18 hne)
  exact kk adN10 tY tK tq16 X4 N5 T L6 kd7 nu8 aa9 LR so rn ri rl M12 _ _ _ _ hf (b_perms (Bs' := [xW g adX (adN10 0) (adT 0) (o_a tY) X4, vW g adN10 N5, vW g adT T, oV g tY, gW L6 kd7 nu8 aa9, pW g LR so rn ri rl, mW g adM (o_a tK) (o_a tq16) M12, oM g tK, oM g tq16]) hW (b_ord [2, 3, 5, 6, 4, 7, 0, 8, 1] 9 rfl rfl rfl)) (by (have := lw_k 45 tQ; have := lw_k 842 tQ; omega)) (by (have := lw_k 45 tQ; have := lw_k 842 tQ; omega))
def lf_18 (X : BC) (N : BC) (T : BC) (Yo : Option BC) (L : List Nat) (kd : Nat → Nat) (nu : Nat → Int32) (aa : Nat → Int32) (LR : List Nat) (so : Nat → Nat) (rn : Nat → Nat) (ri : Nat → Nat → Int32) (rl : Nat → Nat → Int64) (M : BC) (Ko : Option BC) (To : Option BC) (x1 : Int32) (x2 : Int32) (post : lwPT) : Prop :=
 q_b2 (f_X0_innOf X N x1 x2) fun (r1 : Int32) (X2 : BC) =>
 q_b2 (f_X3_innOf M x1 x2) fun (r5 : Int32) (M6 : BC) =>
 q_ck (decide (r1 = r5)) (post X2 N T Yo L kd nu aa LR so rn ri rl M6 Ko To)
set_option maxHeartbeats 4000000 in
set_option maxRecDepth 100000 in
theorem lc_18 {p : Program} {l : Launch} {e : Env} {s : State} {m : MethodId} {below : List Frame} {meth : Method} {c : Code} {H : Heap} {locs : List Loc} {cells slots b len n : Nat} {Q : State → Prop} {xs : Nat → Int32} {adX adT adM adN : Nat → Nat} {tY tK tQ : Option ((Nat → Nat) × BC)} {ls : Array Slot} {D : va_G} {g : Nat → ClassId} {A : Nat → Prop} {X N T : BC} {L : List Nat} {kd : Nat → Nat} {nu aa : Nat → Int32} {LR : List Nat} {so rn : Nat → Nat} {ri : Nat → Nat → Int32} {rl : Nat → Nat → Int64} {M : BC} {fu : Nat} {post : lwPT} (C : lwC p l s m b c A ls adX adM len n xs) (hcs : cells + 10000 ≤ 1200384 ∧ slots + 80000 ≤ 5497258) (hW : bW D g A s H locs (lwB g adX adN adT tY adM tK tQ X N T L kd nu aa LR so rn ri rl M)) (hf : lf_18 X N T (tY.map Prod.snd) L kd nu aa LR so rn ri rl M (tK.map Prod.snd) (tQ.map Prod.snd) (xs (n + 1)) (xs (n + 2)) post) (kk : lwK p l e s m b below meth c D g A adX adT adM ls Q cells slots post) : W p l e room_1 s m #[.ref b] below meth c H locs cells slots Q (F0 m 901 ls []) := by
  have C0 := C
  obtain ⟨hx, hb, hml, hown, hts, hst, -, -, -, -, -, hl⟩ := C0
  rw [lf_18] at hf
  have hW : bW D g A s H locs [xW g adX (adN 0) (adT 0) (o_a tY) X, vW g adN N, vW g adT T, oV g tY, gW L kd nu aa, pW g LR so rn ri rl, mW g adM (o_a tK) (o_a tQ) M, oM g tK, oM g tQ] := hW
  refine lv_aload_n hx hb dL_law_901 rfl (lv_at hl 1 rfl) ?_
  refine lw_arg C hW 1 (K := 1) rfl (by decide) dL_law_902 dL_law_903 dL_law_904 dL_law_905 dL_law_906 ?_
  refine lw_arg C hW 2 (K := 2) rfl (by decide) dL_law_907 dL_law_908 dL_law_909 dL_law_910 dL_law_911 ?_
  obtain ⟨r1, X2, hc3, hf⟩ := q_b2s hf
  have hp4 : List.Perm (α := va_W) [xW g adX (adN 0) (adT 0) (o_a tY) X, vW g adN N, vW g adT T, oV g tY, gW L kd nu aa, pW g LR so rn ri rl, mW g adM (o_a tK) (o_a tQ) M, oM g tK, oM g tQ] ([xW g adX (adN 0) (adT 0) (o_a tY) X, vW g adN N] ++ [vW g adT T, oV g tY, gW L kd nu aa, pW g LR so rn ri rl, mW g adM (o_a tK) (o_a tQ) M, oM g tK, oM g tQ]) := b_perm [0, 1] [2, 3, 4, 5, 6, 7, 8] 9 rfl rfl rfl rfl
  refine b_call0 ⟨rfl, rfl⟩ (va_runV (As := [.int (xs (n + 1)), .int (xs (n + 2))]) (rest := []) ⟨hx, hb, hml, hown, hts⟩ (m_X0_innOf l D g H.size adX (o_a tY) adN adT X N (xs (n + 1)) (xs (n + 2)) r1 X2 hc3) (cwV 2 hts (lw_V q1093 q1094 q1095 q76 q1096) rfl rfl rfl (by decide +kernel) ⟨Nat.le_of_ble_eq_true rfl, Nat.le_of_ble_eq_true rfl⟩) (b_preV (pp := 0) (q := 0) hW hp4 rfl xW_0 rfl) rfl rfl hl.1 rfl (lv_room (Nat.le_of_ble_eq_true rfl)) dL_law_912 ⟨(show cells + 0 ≤ 1200384 from by (omega)), (show slots + 0 ≤ 5497258 from by (omega))⟩) hW hp4 (fun _ _ H locs hW => ?_)
  have hW : bW D g A s H locs [xW g adX (adN 0) (adT 0) (o_a tY) X2, vW g adN N, vW g adT T, oV g tY, gW L kd nu aa, pW g LR so rn ri rl, mW g adM (o_a tK) (o_a tQ) M, oM g tK, oM g tQ] := hW
  refine lv_aload_n hx hb dL_law_915 rfl (lv_at hl 2 rfl) ?_
  refine lw_arg C hW 1 (K := 1) rfl (by decide) dL_law_916 dL_law_917 dL_law_918 dL_law_919 dL_law_920 ?_
  refine lw_arg C hW 2 (K := 2) rfl (by decide) dL_law_921 dL_law_922 dL_law_923 dL_law_924 dL_law_925 ?_
  obtain ⟨r5, M6, hc7, hf⟩ := q_b2s hf
  have hp8 : List.Perm (α := va_W) [xW g adX (adN 0) (adT 0) (o_a tY) X2, vW g adN N, vW g adT T, oV g tY, gW L kd nu aa, pW g LR so rn ri rl, mW g adM (o_a tK) (o_a tQ) M, oM g tK, oM g tQ] ([mW g adM (o_a tK) (o_a tQ) M] ++ [xW g adX (adN 0) (adT 0) (o_a tY) X2, vW g adN N, vW g adT T, oV g tY, gW L kd nu aa, pW g LR so rn ri rl, oM g tK, oM g tQ]) := b_perm [6] [0, 1, 2, 3, 4, 5, 7, 8] 9 rfl rfl rfl rfl
  refine b_call0 ⟨rfl, rfl⟩ (va_runV (As := [.int (xs (n + 1)), .int (xs (n + 2))]) (rest := [.int r1]) ⟨hx, hb, hml, hown, hts⟩ (m_X3_innOf l D g H.size adM (o_a tK) (o_a tQ) M (xs (n + 1)) (xs (n + 2)) r5 M6 hc7) (cwV 2 hts (lw_V q1787 q1788 q1789 q79 q1790) rfl rfl rfl (by decide +kernel) ⟨Nat.le_of_ble_eq_true rfl, Nat.le_of_ble_eq_true rfl⟩) (b_preV (pp := 6) (q := 0) hW hp8 rfl mW_0 rfl) rfl rfl hl.1 rfl (lv_room (Nat.le_of_ble_eq_true rfl)) dL_law_926 ⟨(show cells + 0 ≤ 1200384 from by (omega)), (show slots + 0 ≤ 5497258 from by (omega))⟩) hW hp8 (fun _ _ H locs hW => ?_)
  have hW : bW D g A s H locs [mW g adM (o_a tK) (o_a tQ) M6, xW g adX (adN 0) (adT 0) (o_a tY) X2, vW g adN N, vW g adT T, oV g tY, gW L kd nu aa, pW g LR so rn ri rl, oM g tK, oM g tQ] := hW
  obtain ⟨he9, hf⟩ := q_cs hf; have he9 := of_decide_eq_true he9
  refine lv_icmp_eq (tgt := 1948) hx hb dL_law_929 (by decide) (fun _ => ?_) (fun hne => absurd he9 hne)
  exact kk adN tY tK tQ X2 N T L kd nu aa LR so rn ri rl M6 _ _ _ _ hf (b_perms (Bs' := [xW g adX (adN 0) (adT 0) (o_a tY) X2, vW g adN N, vW g adT T, oV g tY, gW L kd nu aa, pW g LR so rn ri rl, mW g adM (o_a tK) (o_a tQ) M6, oM g tK, oM g tQ]) hW (b_ord [1, 2, 3, 4, 5, 6, 0, 7, 8] 9 rfl rfl rfl)) (by (omega)) (by (omega))
def lf_19 (X : BC) (N : BC) (T : BC) (Yo : Option BC) (L : List Nat) (kd : Nat → Nat) (nu : Nat → Int32) (aa : Nat → Int32) (LR : List Nat) (so : Nat → Nat) (rn : Nat → Nat) (ri : Nat → Nat → Int32) (rl : Nat → Nat → Int64) (M : BC) (Ko : Option BC) (To : Option BC) (x1 : Int32) (x2 : Int32) (post : lwPT) : Prop :=
 q_b2 (f_X0_goerOf X N L kd nu aa x1 x2) fun (r1 : Int32) (X2 : BC) =>
 q_b2 (f_X3_goerOf M x1 x2) fun (r5 : Int32) (M6 : BC) =>
 q_ck (decide (r1 = r5)) (post X2 N T Yo L kd nu aa LR so rn ri rl M6 Ko To)
set_option maxHeartbeats 4000000 in
set_option maxRecDepth 100000 in
theorem lc_19 {p : Program} {l : Launch} {e : Env} {s : State} {m : MethodId} {below : List Frame} {meth : Method} {c : Code} {H : Heap} {locs : List Loc} {cells slots b len n : Nat} {Q : State → Prop} {xs : Nat → Int32} {adX adT adM adN : Nat → Nat} {tY tK tQ : Option ((Nat → Nat) × BC)} {ls : Array Slot} {D : va_G} {g : Nat → ClassId} {A : Nat → Prop} {X N T : BC} {L : List Nat} {kd : Nat → Nat} {nu aa : Nat → Int32} {LR : List Nat} {so rn : Nat → Nat} {ri : Nat → Nat → Int32} {rl : Nat → Nat → Int64} {M : BC} {fu : Nat} {post : lwPT} (C : lwC p l s m b c A ls adX adM len n xs) (hcs : cells + 10000 ≤ 1200384 ∧ slots + 80000 ≤ 5497258) (hW : bW D g A s H locs (lwB g adX adN adT tY adM tK tQ X N T L kd nu aa LR so rn ri rl M)) (hf : lf_19 X N T (tY.map Prod.snd) L kd nu aa LR so rn ri rl M (tK.map Prod.snd) (tQ.map Prod.snd) (xs (n + 1)) (xs (n + 2)) post) (kk : lwK p l e s m b below meth c D g A adX adT adM ls Q cells slots post) : W p l e room_1 s m #[.ref b] below meth c H locs cells slots Q (F0 m 934 ls []) := by
  have C0 := C
  obtain ⟨hx, hb, hml, hown, hts, hst, -, -, -, -, -, hl⟩ := C0
  rw [lf_19] at hf
  have hW : bW D g A s H locs [xW g adX (adN 0) (adT 0) (o_a tY) X, vW g adN N, vW g adT T, oV g tY, gW L kd nu aa, pW g LR so rn ri rl, mW g adM (o_a tK) (o_a tQ) M, oM g tK, oM g tQ] := hW
  refine lv_aload_n hx hb dL_law_934 rfl (lv_at hl 1 rfl) ?_
  refine lw_arg C hW 1 (K := 1) rfl (by decide) dL_law_935 dL_law_936 dL_law_937 dL_law_938 dL_law_939 ?_
  refine lw_arg C hW 2 (K := 2) rfl (by decide) dL_law_940 dL_law_941 dL_law_942 dL_law_943 dL_law_944 ?_
  obtain ⟨r1, X2, hc3, hf⟩ := q_b2s hf
  have hp4 : List.Perm (α := va_W) [xW g adX (adN 0) (adT 0) (o_a tY) X, vW g adN N, vW g adT T, oV g tY, gW L kd nu aa, pW g LR so rn ri rl, mW g adM (o_a tK) (o_a tQ) M, oM g tK, oM g tQ] ([xW g adX (adN 0) (adT 0) (o_a tY) X, vW g adN N, gW L kd nu aa] ++ [vW g adT T, oV g tY, pW g LR so rn ri rl, mW g adM (o_a tK) (o_a tQ) M, oM g tK, oM g tQ]) := b_perm [0, 1, 4] [2, 3, 5, 6, 7, 8] 9 rfl rfl rfl rfl
  refine b_call0 ⟨rfl, rfl⟩ (va_runV (As := [.int (xs (n + 1)), .int (xs (n + 2))]) (rest := []) ⟨hx, hb, hml, hown, hts⟩ (m_X0_goerOf l D g H.size adX (o_a tY) adN adT X N L kd nu aa (xs (n + 1)) (xs (n + 2)) r1 X2 hc3) (cwV 2 hts (lw_V q1097 q1098 q1099 q76 q1100) rfl rfl rfl (by decide +kernel) ⟨Nat.le_of_ble_eq_true rfl, Nat.le_of_ble_eq_true rfl⟩) (b_preV (pp := 0) (q := 0) hW hp4 rfl xW_0 rfl) rfl rfl hl.1 rfl (lv_room (Nat.le_of_ble_eq_true rfl)) dL_law_945 ⟨(show cells + 0 ≤ 1200384 from by (omega)), (show slots + 0 ≤ 5497258 from by (omega))⟩) hW hp4 (fun _ _ H locs hW => ?_)
  have hW : bW D g A s H locs [xW g adX (adN 0) (adT 0) (o_a tY) X2, vW g adN N, gW L kd nu aa, vW g adT T, oV g tY, pW g LR so rn ri rl, mW g adM (o_a tK) (o_a tQ) M, oM g tK, oM g tQ] := hW
  refine lv_aload_n hx hb dL_law_948 rfl (lv_at hl 2 rfl) ?_
  refine lw_arg C hW 1 (K := 1) rfl (by decide) dL_law_949 dL_law_950 dL_law_951 dL_law_952 dL_law_953 ?_
  refine lw_arg C hW 2 (K := 2) rfl (by decide) dL_law_954 dL_law_955 dL_law_956 dL_law_957 dL_law_958 ?_
  obtain ⟨r5, M6, hc7, hf⟩ := q_b2s hf
  have hp8 : List.Perm (α := va_W) [xW g adX (adN 0) (adT 0) (o_a tY) X2, vW g adN N, gW L kd nu aa, vW g adT T, oV g tY, pW g LR so rn ri rl, mW g adM (o_a tK) (o_a tQ) M, oM g tK, oM g tQ] ([mW g adM (o_a tK) (o_a tQ) M] ++ [xW g adX (adN 0) (adT 0) (o_a tY) X2, vW g adN N, gW L kd nu aa, vW g adT T, oV g tY, pW g LR so rn ri rl, oM g tK, oM g tQ]) := b_perm [6] [0, 1, 2, 3, 4, 5, 7, 8] 9 rfl rfl rfl rfl
  refine b_call0 ⟨rfl, rfl⟩ (va_runV (As := [.int (xs (n + 1)), .int (xs (n + 2))]) (rest := [.int r1]) ⟨hx, hb, hml, hown, hts⟩ (m_X3_goerOf l D g H.size adM (o_a tK) (o_a tQ) M (xs (n + 1)) (xs (n + 2)) r5 M6 hc7) (cwV 2 hts (lw_V q1792 q1793 q1794 q79 q1795) rfl rfl rfl (by decide +kernel) ⟨Nat.le_of_ble_eq_true rfl, Nat.le_of_ble_eq_true rfl⟩) (b_preV (pp := 6) (q := 0) hW hp8 rfl mW_0 rfl) rfl rfl hl.1 rfl (lv_room (Nat.le_of_ble_eq_true rfl)) dL_law_959 ⟨(show cells + 0 ≤ 1200384 from by (omega)), (show slots + 0 ≤ 5497258 from by (omega))⟩) hW hp8 (fun _ _ H locs hW => ?_)
  have hW : bW D g A s H locs [mW g adM (o_a tK) (o_a tQ) M6, xW g adX (adN 0) (adT 0) (o_a tY) X2, vW g adN N, gW L kd nu aa, vW g adT T, oV g tY, pW g LR so rn ri rl, oM g tK, oM g tQ] := hW
  obtain ⟨he9, hf⟩ := q_cs hf; have he9 := of_decide_eq_true he9
  refine lv_icmp_eq (tgt := 1948) hx hb dL_law_962 (by decide) (fun _ => ?_) (fun hne => absurd he9 hne)
  exact kk adN tY tK tQ X2 N T L kd nu aa LR so rn ri rl M6 _ _ _ _ hf (b_perms (Bs' := [xW g adX (adN 0) (adT 0) (o_a tY) X2, vW g adN N, vW g adT T, oV g tY, gW L kd nu aa, pW g LR so rn ri rl, mW g adM (o_a tK) (o_a tQ) M6, oM g tK, oM g tQ]) hW (b_ord [1, 2, 4, 5, 3, 6, 0, 7, 8] 9 rfl rfl rfl)) (by (omega)) (by (omega))
def lf_20 (X : BC) (N : BC) (T : BC) (Yo : Option BC) (L : List Nat) (kd : Nat → Nat) (nu : Nat → Int32) (aa : Nat → Int32) (LR : List Nat) (so : Nat → Nat) (rn : Nat → Nat) (ri : Nat → Nat → Int32) (rl : Nat → Nat → Int64) (M : BC) (Ko : Option BC) (To : Option BC) (x1 : Int32) (x2 : Int32) (post : lwPT) : Prop :=
 q_b2 (f_X0_score X N L kd nu aa x1 x2) fun (r1 : Int32) (X2 : BC) =>
 q_b2 (f_X3_score M x1 x2) fun (r5 : Int32) (M6 : BC) =>
 q_ck (decide (r1 = r5)) (post X2 N T Yo L kd nu aa LR so rn ri rl M6 Ko To)
set_option maxHeartbeats 4000000 in
set_option maxRecDepth 100000 in
theorem lc_20 {p : Program} {l : Launch} {e : Env} {s : State} {m : MethodId} {below : List Frame} {meth : Method} {c : Code} {H : Heap} {locs : List Loc} {cells slots b len n : Nat} {Q : State → Prop} {xs : Nat → Int32} {adX adT adM adN : Nat → Nat} {tY tK tQ : Option ((Nat → Nat) × BC)} {ls : Array Slot} {D : va_G} {g : Nat → ClassId} {A : Nat → Prop} {X N T : BC} {L : List Nat} {kd : Nat → Nat} {nu aa : Nat → Int32} {LR : List Nat} {so rn : Nat → Nat} {ri : Nat → Nat → Int32} {rl : Nat → Nat → Int64} {M : BC} {fu : Nat} {post : lwPT} (C : lwC p l s m b c A ls adX adM len n xs) (hcs : cells + 10000 ≤ 1200384 ∧ slots + 80000 ≤ 5497258) (hW : bW D g A s H locs (lwB g adX adN adT tY adM tK tQ X N T L kd nu aa LR so rn ri rl M)) (hf : lf_20 X N T (tY.map Prod.snd) L kd nu aa LR so rn ri rl M (tK.map Prod.snd) (tQ.map Prod.snd) (xs (n + 1)) (xs (n + 2)) post) (kk : lwK p l e s m b below meth c D g A adX adT adM ls Q cells slots post) : W p l e room_1 s m #[.ref b] below meth c H locs cells slots Q (F0 m 967 ls []) := by
  have C0 := C
  obtain ⟨hx, hb, hml, hown, hts, hst, -, -, -, -, -, hl⟩ := C0
  rw [lf_20] at hf
  have hW : bW D g A s H locs [xW g adX (adN 0) (adT 0) (o_a tY) X, vW g adN N, vW g adT T, oV g tY, gW L kd nu aa, pW g LR so rn ri rl, mW g adM (o_a tK) (o_a tQ) M, oM g tK, oM g tQ] := hW
  refine lv_aload_n hx hb dL_law_967 rfl (lv_at hl 1 rfl) ?_
  refine lw_arg C hW 1 (K := 1) rfl (by decide) dL_law_968 dL_law_969 dL_law_970 dL_law_971 dL_law_972 ?_
  refine lw_arg C hW 2 (K := 2) rfl (by decide) dL_law_973 dL_law_974 dL_law_975 dL_law_976 dL_law_977 ?_
  obtain ⟨r1, X2, hc3, hf⟩ := q_b2s hf
  have hp4 : List.Perm (α := va_W) [xW g adX (adN 0) (adT 0) (o_a tY) X, vW g adN N, vW g adT T, oV g tY, gW L kd nu aa, pW g LR so rn ri rl, mW g adM (o_a tK) (o_a tQ) M, oM g tK, oM g tQ] ([xW g adX (adN 0) (adT 0) (o_a tY) X, vW g adN N, gW L kd nu aa] ++ [vW g adT T, oV g tY, pW g LR so rn ri rl, mW g adM (o_a tK) (o_a tQ) M, oM g tK, oM g tQ]) := b_perm [0, 1, 4] [2, 3, 5, 6, 7, 8] 9 rfl rfl rfl rfl
  refine b_call0 ⟨rfl, rfl⟩ (va_runV (As := [.int (xs (n + 1)), .int (xs (n + 2))]) (rest := []) ⟨hx, hb, hml, hown, hts⟩ (m_X0_score l D g H.size adX (o_a tY) adN adT X N L kd nu aa (xs (n + 1)) (xs (n + 2)) r1 X2 hc3) (cwV 2 hts (lw_V q1121 q1122 q1123 q76 q1124) rfl rfl rfl (by decide +kernel) ⟨Nat.le_of_ble_eq_true rfl, Nat.le_of_ble_eq_true rfl⟩) (b_preV (pp := 0) (q := 0) hW hp4 rfl xW_0 rfl) rfl rfl hl.1 rfl (lv_room (Nat.le_of_ble_eq_true rfl)) dL_law_978 ⟨(show cells + 0 ≤ 1200384 from by (omega)), (show slots + 0 ≤ 5497258 from by (omega))⟩) hW hp4 (fun _ _ H locs hW => ?_)
  have hW : bW D g A s H locs [xW g adX (adN 0) (adT 0) (o_a tY) X2, vW g adN N, gW L kd nu aa, vW g adT T, oV g tY, pW g LR so rn ri rl, mW g adM (o_a tK) (o_a tQ) M, oM g tK, oM g tQ] := hW
  refine lv_aload_n hx hb dL_law_981 rfl (lv_at hl 2 rfl) ?_
  refine lw_arg C hW 1 (K := 1) rfl (by decide) dL_law_982 dL_law_983 dL_law_984 dL_law_985 dL_law_986 ?_
  refine lw_arg C hW 2 (K := 2) rfl (by decide) dL_law_987 dL_law_988 dL_law_989 dL_law_990 dL_law_991 ?_
  obtain ⟨r5, M6, hc7, hf⟩ := q_b2s hf
  have hp8 : List.Perm (α := va_W) [xW g adX (adN 0) (adT 0) (o_a tY) X2, vW g adN N, gW L kd nu aa, vW g adT T, oV g tY, pW g LR so rn ri rl, mW g adM (o_a tK) (o_a tQ) M, oM g tK, oM g tQ] ([mW g adM (o_a tK) (o_a tQ) M] ++ [xW g adX (adN 0) (adT 0) (o_a tY) X2, vW g adN N, gW L kd nu aa, vW g adT T, oV g tY, pW g LR so rn ri rl, oM g tK, oM g tQ]) := b_perm [6] [0, 1, 2, 3, 4, 5, 7, 8] 9 rfl rfl rfl rfl
  refine b_call0 ⟨rfl, rfl⟩ (va_runV (As := [.int (xs (n + 1)), .int (xs (n + 2))]) (rest := [.int r1]) ⟨hx, hb, hml, hown, hts⟩ (m_X3_score l D g H.size adM (o_a tK) (o_a tQ) M (xs (n + 1)) (xs (n + 2)) r5 M6 hc7) (cwV 2 hts (lw_V q1797 q1798 q1799 q79 q1800) rfl rfl rfl (by decide +kernel) ⟨Nat.le_of_ble_eq_true rfl, Nat.le_of_ble_eq_true rfl⟩) (b_preV (pp := 6) (q := 0) hW hp8 rfl mW_0 rfl) rfl rfl hl.1 rfl (lv_room (Nat.le_of_ble_eq_true rfl)) dL_law_992 ⟨(show cells + 0 ≤ 1200384 from by (omega)), (show slots + 0 ≤ 5497258 from by (omega))⟩) hW hp8 (fun _ _ H locs hW => ?_)
  have hW : bW D g A s H locs [mW g adM (o_a tK) (o_a tQ) M6, xW g adX (adN 0) (adT 0) (o_a tY) X2, vW g adN N, gW L kd nu aa, vW g adT T, oV g tY, pW g LR so rn ri rl, oM g tK, oM g tQ] := hW
  obtain ⟨he9, hf⟩ := q_cs hf; have he9 := of_decide_eq_true he9
  refine lv_icmp_eq (tgt := 1948) hx hb dL_law_995 (by decide) (fun _ => ?_) (fun hne => absurd he9 hne)
  exact kk adN tY tK tQ X2 N T L kd nu aa LR so rn ri rl M6 _ _ _ _ hf (b_perms (Bs' := [xW g adX (adN 0) (adT 0) (o_a tY) X2, vW g adN N, vW g adT T, oV g tY, gW L kd nu aa, pW g LR so rn ri rl, mW g adM (o_a tK) (o_a tQ) M6, oM g tK, oM g tQ]) hW (b_ord [1, 2, 4, 5, 3, 6, 0, 7, 8] 9 rfl rfl rfl)) (by (omega)) (by (omega))
def lf_21 (fu : Nat) (X : BC) (N : BC) (T : BC) (Yo : Option BC) (L : List Nat) (kd : Nat → Nat) (nu : Nat → Int32) (aa : Nat → Int32) (LR : List Nat) (so : Nat → Nat) (rn : Nat → Nat) (ri : Nat → Nat → Int32) (rl : Nat → Nat → Int64) (M : BC) (Ko : Option BC) (To : Option BC) (x1 : Int32) (x2 : Int32) (post : lwPT) : Prop :=
 q_b3 (f_X0_sleeps fu X N L kd nu aa x1 x2) fun (r1 : Int32) (X2 : BC) (N3 : BC) =>
 q_b2 (f_X3_sleeps fu M x1 x2) fun (r6 : Int32) (M7 : BC) =>
 q_ck (decide (r1 = r6)) (post X2 N3 T Yo L kd nu aa LR so rn ri rl M7 Ko To)
set_option maxHeartbeats 4000000 in
set_option maxRecDepth 100000 in
theorem lc_21 {p : Program} {l : Launch} {e : Env} {s : State} {m : MethodId} {below : List Frame} {meth : Method} {c : Code} {H : Heap} {locs : List Loc} {cells slots b len n : Nat} {Q : State → Prop} {xs : Nat → Int32} {adX adT adM adN : Nat → Nat} {tY tK tQ : Option ((Nat → Nat) × BC)} {ls : Array Slot} {D : va_G} {g : Nat → ClassId} {A : Nat → Prop} {X N T : BC} {L : List Nat} {kd : Nat → Nat} {nu aa : Nat → Int32} {LR : List Nat} {so rn : Nat → Nat} {ri : Nat → Nat → Int32} {rl : Nat → Nat → Int64} {M : BC} {fu : Nat} {post : lwPT} (C : lwC p l s m b c A ls adX adM len n xs) (hcs : cells + 10000 ≤ 1200384 ∧ slots + 80000 ≤ 5497258) (hW : bW D g A s H locs (lwB g adX adN adT tY adM tK tQ X N T L kd nu aa LR so rn ri rl M)) (hf : lf_21 fu X N T (tY.map Prod.snd) L kd nu aa LR so rn ri rl M (tK.map Prod.snd) (tQ.map Prod.snd) (xs (n + 1)) (xs (n + 2)) post) (kk : lwK p l e s m b below meth c D g A adX adT adM ls Q cells slots post) : W p l e room_1 s m #[.ref b] below meth c H locs cells slots Q (F0 m 1000 ls []) := by
  have C0 := C
  obtain ⟨hx, hb, hml, hown, hts, hst, -, -, -, -, -, hl⟩ := C0
  rw [lf_21] at hf
  have hW : bW D g A s H locs [xW g adX (adN 0) (adT 0) (o_a tY) X, vW g adN N, vW g adT T, oV g tY, gW L kd nu aa, pW g LR so rn ri rl, mW g adM (o_a tK) (o_a tQ) M, oM g tK, oM g tQ] := hW
  refine lv_aload_n hx hb dL_law_1000 rfl (lv_at hl 1 rfl) ?_
  refine lw_arg C hW 1 (K := 1) rfl (by decide) dL_law_1001 dL_law_1002 dL_law_1003 dL_law_1004 dL_law_1005 ?_
  refine lw_arg C hW 2 (K := 2) rfl (by decide) dL_law_1006 dL_law_1007 dL_law_1008 dL_law_1009 dL_law_1010 ?_
  obtain ⟨r1, X2, N3, hc4, hf⟩ := q_b3s hf
  have hp5 : List.Perm (α := va_W) [xW g adX (adN 0) (adT 0) (o_a tY) X, vW g adN N, vW g adT T, oV g tY, gW L kd nu aa, pW g LR so rn ri rl, mW g adM (o_a tK) (o_a tQ) M, oM g tK, oM g tQ] ([xW g adX (adN 0) (adT 0) (o_a tY) X, vW g adN N, gW L kd nu aa] ++ [vW g adT T, oV g tY, pW g LR so rn ri rl, mW g adM (o_a tK) (o_a tQ) M, oM g tK, oM g tQ]) := b_perm [0, 1, 4] [2, 3, 5, 6, 7, 8] 9 rfl rfl rfl rfl
  refine b_call0 ⟨rfl, rfl⟩ (va_runV (As := [.int (xs (n + 1)), .int (xs (n + 2))]) (rest := []) ⟨hx, hb, hml, hown, hts⟩ (m_X0_sleeps l D g H.size adX (o_a tY) adN adT fu X N L kd nu aa (xs (n + 1)) (xs (n + 2)) r1 X2 N3 hc4) (cwV 2 hts (lw_V q1131 q1132 q1133 q76 q1134) rfl rfl rfl (by decide +kernel) ⟨Nat.le_of_ble_eq_true rfl, Nat.le_of_ble_eq_true rfl⟩) (b_preV (pp := 0) (q := 0) hW hp5 rfl xW_0 rfl) rfl rfl hl.1 rfl (lv_room (Nat.le_of_ble_eq_true rfl)) dL_law_1011 ⟨(show cells + 0 ≤ 1200384 from by (omega)), (show slots + 0 ≤ 5497258 from by (omega))⟩) hW hp5 (fun _ _ H locs hW => ?_)
  have hW : bW D g A s H locs [xW g adX (adN 0) (adT 0) (o_a tY) X2, vW g adN N3, gW L kd nu aa, vW g adT T, oV g tY, pW g LR so rn ri rl, mW g adM (o_a tK) (o_a tQ) M, oM g tK, oM g tQ] := hW
  refine lv_aload_n hx hb dL_law_1014 rfl (lv_at hl 2 rfl) ?_
  refine lw_arg C hW 1 (K := 1) rfl (by decide) dL_law_1015 dL_law_1016 dL_law_1017 dL_law_1018 dL_law_1019 ?_
  refine lw_arg C hW 2 (K := 2) rfl (by decide) dL_law_1020 dL_law_1021 dL_law_1022 dL_law_1023 dL_law_1024 ?_
  obtain ⟨r6, M7, hc8, hf⟩ := q_b2s hf
  have hp9 : List.Perm (α := va_W) [xW g adX (adN 0) (adT 0) (o_a tY) X2, vW g adN N3, gW L kd nu aa, vW g adT T, oV g tY, pW g LR so rn ri rl, mW g adM (o_a tK) (o_a tQ) M, oM g tK, oM g tQ] ([mW g adM (o_a tK) (o_a tQ) M] ++ [xW g adX (adN 0) (adT 0) (o_a tY) X2, vW g adN N3, gW L kd nu aa, vW g adT T, oV g tY, pW g LR so rn ri rl, oM g tK, oM g tQ]) := b_perm [6] [0, 1, 2, 3, 4, 5, 7, 8] 9 rfl rfl rfl rfl
  refine b_call0 ⟨rfl, rfl⟩ (va_runV (As := [.int (xs (n + 1)), .int (xs (n + 2))]) (rest := [.int r1]) ⟨hx, hb, hml, hown, hts⟩ (m_X3_sleeps l D g H.size adM (o_a tK) (o_a tQ) fu M (xs (n + 1)) (xs (n + 2)) r6 M7 hc8) (cwV 2 hts (lw_V q1802 q1803 q1804 q79 q1805) rfl rfl rfl (by decide +kernel) ⟨Nat.le_of_ble_eq_true rfl, Nat.le_of_ble_eq_true rfl⟩) (b_preV (pp := 6) (q := 0) hW hp9 rfl mW_0 rfl) rfl rfl hl.1 rfl (lv_room (Nat.le_of_ble_eq_true rfl)) dL_law_1025 ⟨(show cells + 0 ≤ 1200384 from by (omega)), (show slots + 0 ≤ 5497258 from by (omega))⟩) hW hp9 (fun _ _ H locs hW => ?_)
  have hW : bW D g A s H locs [mW g adM (o_a tK) (o_a tQ) M7, xW g adX (adN 0) (adT 0) (o_a tY) X2, vW g adN N3, gW L kd nu aa, vW g adT T, oV g tY, pW g LR so rn ri rl, oM g tK, oM g tQ] := hW
  obtain ⟨he10, hf⟩ := q_cs hf; have he10 := of_decide_eq_true he10
  refine lv_icmp_eq (tgt := 1948) hx hb dL_law_1028 (by decide) (fun _ => ?_) (fun hne => absurd he10 hne)
  exact kk adN tY tK tQ X2 N3 T L kd nu aa LR so rn ri rl M7 _ _ _ _ hf (b_perms (Bs' := [xW g adX (adN 0) (adT 0) (o_a tY) X2, vW g adN N3, vW g adT T, oV g tY, gW L kd nu aa, pW g LR so rn ri rl, mW g adM (o_a tK) (o_a tQ) M7, oM g tK, oM g tQ]) hW (b_ord [1, 2, 4, 5, 3, 6, 0, 7, 8] 9 rfl rfl rfl)) (by (omega)) (by (omega))
def lf_22 (fu : Nat) (X : BC) (N : BC) (T : BC) (Yo : Option BC) (L : List Nat) (kd : Nat → Nat) (nu : Nat → Int32) (aa : Nat → Int32) (LR : List Nat) (so : Nat → Nat) (rn : Nat → Nat) (ri : Nat → Nat → Int32) (rl : Nat → Nat → Int64) (M : BC) (Ko : Option BC) (To : Option BC) (x1 : Int32) (post : lwPT) : Prop :=
 q_b3 (f_X0_guests fu X N L kd nu aa x1) fun (r1 : Int32) (X2 : BC) (N3 : BC) =>
 q_b2 (f_X3_guests fu M x1) fun (r6 : Int32) (M7 : BC) =>
 q_ck (decide (r1 = r6)) (post X2 N3 T Yo L kd nu aa LR so rn ri rl M7 Ko To)
set_option maxHeartbeats 4000000 in
set_option maxRecDepth 100000 in
theorem lc_22 {p : Program} {l : Launch} {e : Env} {s : State} {m : MethodId} {below : List Frame} {meth : Method} {c : Code} {H : Heap} {locs : List Loc} {cells slots b len n : Nat} {Q : State → Prop} {xs : Nat → Int32} {adX adT adM adN : Nat → Nat} {tY tK tQ : Option ((Nat → Nat) × BC)} {ls : Array Slot} {D : va_G} {g : Nat → ClassId} {A : Nat → Prop} {X N T : BC} {L : List Nat} {kd : Nat → Nat} {nu aa : Nat → Int32} {LR : List Nat} {so rn : Nat → Nat} {ri : Nat → Nat → Int32} {rl : Nat → Nat → Int64} {M : BC} {fu : Nat} {post : lwPT} (C : lwC p l s m b c A ls adX adM len n xs) (hcs : cells + 10000 ≤ 1200384 ∧ slots + 80000 ≤ 5497258) (hW : bW D g A s H locs (lwB g adX adN adT tY adM tK tQ X N T L kd nu aa LR so rn ri rl M)) (hf : lf_22 fu X N T (tY.map Prod.snd) L kd nu aa LR so rn ri rl M (tK.map Prod.snd) (tQ.map Prod.snd) (xs (n + 1)) post) (kk : lwK p l e s m b below meth c D g A adX adT adM ls Q cells slots post) : W p l e room_1 s m #[.ref b] below meth c H locs cells slots Q (F0 m 1033 ls []) := by
  have C0 := C
  obtain ⟨hx, hb, hml, hown, hts, hst, -, -, -, -, -, hl⟩ := C0
  rw [lf_22] at hf
  have hW : bW D g A s H locs [xW g adX (adN 0) (adT 0) (o_a tY) X, vW g adN N, vW g adT T, oV g tY, gW L kd nu aa, pW g LR so rn ri rl, mW g adM (o_a tK) (o_a tQ) M, oM g tK, oM g tQ] := hW
  refine lv_aload_n hx hb dL_law_1033 rfl (lv_at hl 1 rfl) ?_
  refine lw_arg C hW 1 (K := 1) rfl (by decide) dL_law_1034 dL_law_1035 dL_law_1036 dL_law_1037 dL_law_1038 ?_
  obtain ⟨r1, X2, N3, hc4, hf⟩ := q_b3s hf
  have hp5 : List.Perm (α := va_W) [xW g adX (adN 0) (adT 0) (o_a tY) X, vW g adN N, vW g adT T, oV g tY, gW L kd nu aa, pW g LR so rn ri rl, mW g adM (o_a tK) (o_a tQ) M, oM g tK, oM g tQ] ([xW g adX (adN 0) (adT 0) (o_a tY) X, vW g adN N, gW L kd nu aa] ++ [vW g adT T, oV g tY, pW g LR so rn ri rl, mW g adM (o_a tK) (o_a tQ) M, oM g tK, oM g tQ]) := b_perm [0, 1, 4] [2, 3, 5, 6, 7, 8] 9 rfl rfl rfl rfl
  refine b_call0 ⟨rfl, rfl⟩ (va_runV (As := [.int (xs (n + 1))]) (rest := []) ⟨hx, hb, hml, hown, hts⟩ (m_X0_guests l D g H.size adX (o_a tY) adN adT fu X N L kd nu aa (xs (n + 1)) r1 X2 N3 hc4) (cwV 1 hts (lw_V q1171 q1172 q1173 q76 q1174) rfl rfl rfl (by decide +kernel) ⟨Nat.le_of_ble_eq_true rfl, Nat.le_of_ble_eq_true rfl⟩) (b_preV (pp := 0) (q := 0) hW hp5 rfl xW_0 rfl) rfl rfl hl.1 rfl (lv_room (Nat.le_of_ble_eq_true rfl)) dL_law_1039 ⟨(show cells + 0 ≤ 1200384 from by (omega)), (show slots + 0 ≤ 5497258 from by (omega))⟩) hW hp5 (fun _ _ H locs hW => ?_)
  have hW : bW D g A s H locs [xW g adX (adN 0) (adT 0) (o_a tY) X2, vW g adN N3, gW L kd nu aa, vW g adT T, oV g tY, pW g LR so rn ri rl, mW g adM (o_a tK) (o_a tQ) M, oM g tK, oM g tQ] := hW
  refine lv_aload_n hx hb dL_law_1042 rfl (lv_at hl 2 rfl) ?_
  refine lw_arg C hW 1 (K := 1) rfl (by decide) dL_law_1043 dL_law_1044 dL_law_1045 dL_law_1046 dL_law_1047 ?_
  obtain ⟨r6, M7, hc8, hf⟩ := q_b2s hf
  have hp9 : List.Perm (α := va_W) [xW g adX (adN 0) (adT 0) (o_a tY) X2, vW g adN N3, gW L kd nu aa, vW g adT T, oV g tY, pW g LR so rn ri rl, mW g adM (o_a tK) (o_a tQ) M, oM g tK, oM g tQ] ([mW g adM (o_a tK) (o_a tQ) M] ++ [xW g adX (adN 0) (adT 0) (o_a tY) X2, vW g adN N3, gW L kd nu aa, vW g adT T, oV g tY, pW g LR so rn ri rl, oM g tK, oM g tQ]) := b_perm [6] [0, 1, 2, 3, 4, 5, 7, 8] 9 rfl rfl rfl rfl
  refine b_call0 ⟨rfl, rfl⟩ (va_runV (As := [.int (xs (n + 1))]) (rest := [.int r1]) ⟨hx, hb, hml, hown, hts⟩ (m_X3_guests l D g H.size adM (o_a tK) (o_a tQ) fu M (xs (n + 1)) r6 M7 hc8) (cwV 1 hts (lw_V q1818 q1819 q1820 q79 q1821) rfl rfl rfl (by decide +kernel) ⟨Nat.le_of_ble_eq_true rfl, Nat.le_of_ble_eq_true rfl⟩) (b_preV (pp := 6) (q := 0) hW hp9 rfl mW_0 rfl) rfl rfl hl.1 rfl (lv_room (Nat.le_of_ble_eq_true rfl)) dL_law_1048 ⟨(show cells + 0 ≤ 1200384 from by (omega)), (show slots + 0 ≤ 5497258 from by (omega))⟩) hW hp9 (fun _ _ H locs hW => ?_)
  have hW : bW D g A s H locs [mW g adM (o_a tK) (o_a tQ) M7, xW g adX (adN 0) (adT 0) (o_a tY) X2, vW g adN N3, gW L kd nu aa, vW g adT T, oV g tY, pW g LR so rn ri rl, oM g tK, oM g tQ] := hW
  obtain ⟨he10, hf⟩ := q_cs hf; have he10 := of_decide_eq_true he10
  refine lv_icmp_eq (tgt := 1948) hx hb dL_law_1051 (by decide) (fun _ => ?_) (fun hne => absurd he10 hne)
  exact kk adN tY tK tQ X2 N3 T L kd nu aa LR so rn ri rl M7 _ _ _ _ hf (b_perms (Bs' := [xW g adX (adN 0) (adT 0) (o_a tY) X2, vW g adN N3, vW g adT T, oV g tY, gW L kd nu aa, pW g LR so rn ri rl, mW g adM (o_a tK) (o_a tQ) M7, oM g tK, oM g tQ]) hW (b_ord [1, 2, 4, 5, 3, 6, 0, 7, 8] 9 rfl rfl rfl)) (by (omega)) (by (omega))
def lf_23 (fu : Nat) (X : BC) (N : BC) (T : BC) (Yo : Option BC) (L : List Nat) (kd : Nat → Nat) (nu : Nat → Int32) (aa : Nat → Int32) (LR : List Nat) (so : Nat → Nat) (rn : Nat → Nat) (ri : Nat → Nat → Int32) (rl : Nat → Nat → Int64) (M : BC) (Ko : Option BC) (To : Option BC) (x1 : Int32) (post : lwPT) : Prop :=
 q_b3 (f_X0_out fu X N T L kd nu aa x1) fun (r1 : Int32) (X2 : BC) (N3 : BC) =>
 q_b2 (f_X3_out fu M x1) fun (r6 : Int32) (M7 : BC) =>
 q_ck (decide (r1 = r6)) (post X2 N3 T Yo L kd nu aa LR so rn ri rl M7 Ko To)
set_option maxHeartbeats 4000000 in
set_option maxRecDepth 100000 in
theorem lc_23 {p : Program} {l : Launch} {e : Env} {s : State} {m : MethodId} {below : List Frame} {meth : Method} {c : Code} {H : Heap} {locs : List Loc} {cells slots b len n : Nat} {Q : State → Prop} {xs : Nat → Int32} {adX adT adM adN : Nat → Nat} {tY tK tQ : Option ((Nat → Nat) × BC)} {ls : Array Slot} {D : va_G} {g : Nat → ClassId} {A : Nat → Prop} {X N T : BC} {L : List Nat} {kd : Nat → Nat} {nu aa : Nat → Int32} {LR : List Nat} {so rn : Nat → Nat} {ri : Nat → Nat → Int32} {rl : Nat → Nat → Int64} {M : BC} {fu : Nat} {post : lwPT} (C : lwC p l s m b c A ls adX adM len n xs) (hcs : cells + 10000 ≤ 1200384 ∧ slots + 80000 ≤ 5497258) (hW : bW D g A s H locs (lwB g adX adN adT tY adM tK tQ X N T L kd nu aa LR so rn ri rl M)) (hf : lf_23 fu X N T (tY.map Prod.snd) L kd nu aa LR so rn ri rl M (tK.map Prod.snd) (tQ.map Prod.snd) (xs (n + 1)) post) (kk : lwK p l e s m b below meth c D g A adX adT adM ls Q cells slots post) : W p l e room_1 s m #[.ref b] below meth c H locs cells slots Q (F0 m 1056 ls []) := by
  have C0 := C
  obtain ⟨hx, hb, hml, hown, hts, hst, -, -, -, -, -, hl⟩ := C0
  rw [lf_23] at hf
  have hW : bW D g A s H locs [xW g adX (adN 0) (adT 0) (o_a tY) X, vW g adN N, vW g adT T, oV g tY, gW L kd nu aa, pW g LR so rn ri rl, mW g adM (o_a tK) (o_a tQ) M, oM g tK, oM g tQ] := hW
  refine lv_aload_n hx hb dL_law_1056 rfl (lv_at hl 1 rfl) ?_
  refine lw_arg C hW 1 (K := 1) rfl (by decide) dL_law_1057 dL_law_1058 dL_law_1059 dL_law_1060 dL_law_1061 ?_
  obtain ⟨r1, X2, N3, hc4, hf⟩ := q_b3s hf
  have hp5 : List.Perm (α := va_W) [xW g adX (adN 0) (adT 0) (o_a tY) X, vW g adN N, vW g adT T, oV g tY, gW L kd nu aa, pW g LR so rn ri rl, mW g adM (o_a tK) (o_a tQ) M, oM g tK, oM g tQ] ([xW g adX (adN 0) (adT 0) (o_a tY) X, vW g adN N, vW g adT T, gW L kd nu aa] ++ [oV g tY, pW g LR so rn ri rl, mW g adM (o_a tK) (o_a tQ) M, oM g tK, oM g tQ]) := b_perm [0, 1, 2, 4] [3, 5, 6, 7, 8] 9 rfl rfl rfl rfl
  refine b_call0 ⟨rfl, rfl⟩ (va_runV (As := [.int (xs (n + 1))]) (rest := []) ⟨hx, hb, hml, hown, hts⟩ (m_X0_out l D g H.size adX (o_a tY) adN adT fu X N T L kd nu aa (xs (n + 1)) r1 X2 N3 hc4) (cwV 1 hts (lw_V q1175 q1176 q1177 q76 q1178) rfl rfl rfl (by decide +kernel) ⟨Nat.le_of_ble_eq_true rfl, Nat.le_of_ble_eq_true rfl⟩) (b_preV (pp := 0) (q := 0) hW hp5 rfl xW_0 rfl) rfl rfl hl.1 rfl (lv_room (Nat.le_of_ble_eq_true rfl)) dL_law_1062 ⟨(show cells + 0 ≤ 1200384 from by (omega)), (show slots + 0 ≤ 5497258 from by (omega))⟩) hW hp5 (fun _ _ H locs hW => ?_)
  have hW : bW D g A s H locs [xW g adX (adN 0) (adT 0) (o_a tY) X2, vW g adN N3, vW g adT T, gW L kd nu aa, oV g tY, pW g LR so rn ri rl, mW g adM (o_a tK) (o_a tQ) M, oM g tK, oM g tQ] := hW
  refine lv_aload_n hx hb dL_law_1065 rfl (lv_at hl 2 rfl) ?_
  refine lw_arg C hW 1 (K := 1) rfl (by decide) dL_law_1066 dL_law_1067 dL_law_1068 dL_law_1069 dL_law_1070 ?_
  obtain ⟨r6, M7, hc8, hf⟩ := q_b2s hf
  have hp9 : List.Perm (α := va_W) [xW g adX (adN 0) (adT 0) (o_a tY) X2, vW g adN N3, vW g adT T, gW L kd nu aa, oV g tY, pW g LR so rn ri rl, mW g adM (o_a tK) (o_a tQ) M, oM g tK, oM g tQ] ([mW g adM (o_a tK) (o_a tQ) M] ++ [xW g adX (adN 0) (adT 0) (o_a tY) X2, vW g adN N3, vW g adT T, gW L kd nu aa, oV g tY, pW g LR so rn ri rl, oM g tK, oM g tQ]) := b_perm [6] [0, 1, 2, 3, 4, 5, 7, 8] 9 rfl rfl rfl rfl
  refine b_call0 ⟨rfl, rfl⟩ (va_runV (As := [.int (xs (n + 1))]) (rest := [.int r1]) ⟨hx, hb, hml, hown, hts⟩ (m_X3_out l D g H.size adM (o_a tK) (o_a tQ) fu M (xs (n + 1)) r6 M7 hc8) (cwV 1 hts (lw_V q1826 q1827 q1828 q79 q1829) rfl rfl rfl (by decide +kernel) ⟨Nat.le_of_ble_eq_true rfl, Nat.le_of_ble_eq_true rfl⟩) (b_preV (pp := 6) (q := 0) hW hp9 rfl mW_0 rfl) rfl rfl hl.1 rfl (lv_room (Nat.le_of_ble_eq_true rfl)) dL_law_1071 ⟨(show cells + 0 ≤ 1200384 from by (omega)), (show slots + 0 ≤ 5497258 from by (omega))⟩) hW hp9 (fun _ _ H locs hW => ?_)
  have hW : bW D g A s H locs [mW g adM (o_a tK) (o_a tQ) M7, xW g adX (adN 0) (adT 0) (o_a tY) X2, vW g adN N3, vW g adT T, gW L kd nu aa, oV g tY, pW g LR so rn ri rl, oM g tK, oM g tQ] := hW
  obtain ⟨he10, hf⟩ := q_cs hf; have he10 := of_decide_eq_true he10
  refine lv_icmp_eq (tgt := 1948) hx hb dL_law_1074 (by decide) (fun _ => ?_) (fun hne => absurd he10 hne)
  exact kk adN tY tK tQ X2 N3 T L kd nu aa LR so rn ri rl M7 _ _ _ _ hf (b_perms (Bs' := [xW g adX (adN 0) (adT 0) (o_a tY) X2, vW g adN N3, vW g adT T, oV g tY, gW L kd nu aa, pW g LR so rn ri rl, mW g adM (o_a tK) (o_a tQ) M7, oM g tK, oM g tQ]) hW (b_ord [1, 2, 3, 5, 4, 6, 0, 7, 8] 9 rfl rfl rfl)) (by (omega)) (by (omega))
def lf_24 (fu : Nat) (X : BC) (N : BC) (T : BC) (Yo : Option BC) (L : List Nat) (kd : Nat → Nat) (nu : Nat → Int32) (aa : Nat → Int32) (LR : List Nat) (so : Nat → Nat) (rn : Nat → Nat) (ri : Nat → Nat → Int32) (rl : Nat → Nat → Int64) (M : BC) (Ko : Option BC) (To : Option BC) (post : lwPT) : Prop :=
 q_b2 (f_X0_full fu X N T L kd nu aa) fun (r1 : Int32) (N2 : BC) =>
 q_b2 (f_X3_full fu M) fun (r5 : Int32) (M6 : BC) =>
 q_ck (decide (r1 = r5)) (post X N2 T Yo L kd nu aa LR so rn ri rl M6 Ko To)
set_option maxHeartbeats 4000000 in
set_option maxRecDepth 100000 in
theorem lc_24 {p : Program} {l : Launch} {e : Env} {s : State} {m : MethodId} {below : List Frame} {meth : Method} {c : Code} {H : Heap} {locs : List Loc} {cells slots b len n : Nat} {Q : State → Prop} {xs : Nat → Int32} {adX adT adM adN : Nat → Nat} {tY tK tQ : Option ((Nat → Nat) × BC)} {ls : Array Slot} {D : va_G} {g : Nat → ClassId} {A : Nat → Prop} {X N T : BC} {L : List Nat} {kd : Nat → Nat} {nu aa : Nat → Int32} {LR : List Nat} {so rn : Nat → Nat} {ri : Nat → Nat → Int32} {rl : Nat → Nat → Int64} {M : BC} {fu : Nat} {post : lwPT} (C : lwC p l s m b c A ls adX adM len n xs) (hcs : cells + 10000 ≤ 1200384 ∧ slots + 80000 ≤ 5497258) (hW : bW D g A s H locs (lwB g adX adN adT tY adM tK tQ X N T L kd nu aa LR so rn ri rl M)) (hf : lf_24 fu X N T (tY.map Prod.snd) L kd nu aa LR so rn ri rl M (tK.map Prod.snd) (tQ.map Prod.snd) post) (kk : lwK p l e s m b below meth c D g A adX adT adM ls Q cells slots post) : W p l e room_1 s m #[.ref b] below meth c H locs cells slots Q (F0 m 1079 ls []) := by
  have C0 := C
  obtain ⟨hx, hb, hml, hown, hts, hst, -, -, -, -, -, hl⟩ := C0
  rw [lf_24] at hf
  have hW : bW D g A s H locs [xW g adX (adN 0) (adT 0) (o_a tY) X, vW g adN N, vW g adT T, oV g tY, gW L kd nu aa, pW g LR so rn ri rl, mW g adM (o_a tK) (o_a tQ) M, oM g tK, oM g tQ] := hW
  refine lv_aload_n hx hb dL_law_1079 rfl (lv_at hl 1 rfl) ?_
  obtain ⟨r1, N2, hc3, hf⟩ := q_b2s hf
  have hp4 : List.Perm (α := va_W) [xW g adX (adN 0) (adT 0) (o_a tY) X, vW g adN N, vW g adT T, oV g tY, gW L kd nu aa, pW g LR so rn ri rl, mW g adM (o_a tK) (o_a tQ) M, oM g tK, oM g tQ] ([xW g adX (adN 0) (adT 0) (o_a tY) X, vW g adN N, vW g adT T, gW L kd nu aa] ++ [oV g tY, pW g LR so rn ri rl, mW g adM (o_a tK) (o_a tQ) M, oM g tK, oM g tQ]) := b_perm [0, 1, 2, 4] [3, 5, 6, 7, 8] 9 rfl rfl rfl rfl
  refine b_call0 ⟨rfl, rfl⟩ (va_runV (As := []) (rest := []) ⟨hx, hb, hml, hown, hts⟩ (m_X0_full l D g H.size adX (o_a tY) adN adT fu X N T L kd nu aa r1 N2 hc3) (cwV 0 hts (lw_V q1179 q1180 q1181 q76 q1182) rfl rfl rfl (by decide +kernel) ⟨Nat.le_of_ble_eq_true rfl, Nat.le_of_ble_eq_true rfl⟩) (b_preV (pp := 0) (q := 0) hW hp4 rfl xW_0 rfl) rfl rfl hl.1 rfl (lv_room (Nat.le_of_ble_eq_true rfl)) dL_law_1080 ⟨(show cells + 0 ≤ 1200384 from by (omega)), (show slots + 0 ≤ 5497258 from by (omega))⟩) hW hp4 (fun _ _ H locs hW => ?_)
  have hW : bW D g A s H locs [xW g adX (adN 0) (adT 0) (o_a tY) X, vW g adN N2, vW g adT T, gW L kd nu aa, oV g tY, pW g LR so rn ri rl, mW g adM (o_a tK) (o_a tQ) M, oM g tK, oM g tQ] := hW
  refine lv_aload_n hx hb dL_law_1083 rfl (lv_at hl 2 rfl) ?_
  obtain ⟨r5, M6, hc7, hf⟩ := q_b2s hf
  have hp8 : List.Perm (α := va_W) [xW g adX (adN 0) (adT 0) (o_a tY) X, vW g adN N2, vW g adT T, gW L kd nu aa, oV g tY, pW g LR so rn ri rl, mW g adM (o_a tK) (o_a tQ) M, oM g tK, oM g tQ] ([mW g adM (o_a tK) (o_a tQ) M] ++ [xW g adX (adN 0) (adT 0) (o_a tY) X, vW g adN N2, vW g adT T, gW L kd nu aa, oV g tY, pW g LR so rn ri rl, oM g tK, oM g tQ]) := b_perm [6] [0, 1, 2, 3, 4, 5, 7, 8] 9 rfl rfl rfl rfl
  refine b_call0 ⟨rfl, rfl⟩ (va_runV (As := []) (rest := [.int r1]) ⟨hx, hb, hml, hown, hts⟩ (m_X3_full l D g H.size adM (o_a tK) (o_a tQ) fu M r5 M6 hc7) (cwV 0 hts (lw_V q1830 q1831 q1832 q79 q1833) rfl rfl rfl (by decide +kernel) ⟨Nat.le_of_ble_eq_true rfl, Nat.le_of_ble_eq_true rfl⟩) (b_preV (pp := 6) (q := 0) hW hp8 rfl mW_0 rfl) rfl rfl hl.1 rfl (lv_room (Nat.le_of_ble_eq_true rfl)) dL_law_1084 ⟨(show cells + 0 ≤ 1200384 from by (omega)), (show slots + 0 ≤ 5497258 from by (omega))⟩) hW hp8 (fun _ _ H locs hW => ?_)
  have hW : bW D g A s H locs [mW g adM (o_a tK) (o_a tQ) M6, xW g adX (adN 0) (adT 0) (o_a tY) X, vW g adN N2, vW g adT T, gW L kd nu aa, oV g tY, pW g LR so rn ri rl, oM g tK, oM g tQ] := hW
  obtain ⟨he9, hf⟩ := q_cs hf; have he9 := of_decide_eq_true he9
  refine lv_icmp_eq (tgt := 1948) hx hb dL_law_1087 (by decide) (fun _ => ?_) (fun hne => absurd he9 hne)
  exact kk adN tY tK tQ X N2 T L kd nu aa LR so rn ri rl M6 _ _ _ _ hf (b_perms (Bs' := [xW g adX (adN 0) (adT 0) (o_a tY) X, vW g adN N2, vW g adT T, oV g tY, gW L kd nu aa, pW g LR so rn ri rl, mW g adM (o_a tK) (o_a tQ) M6, oM g tK, oM g tQ]) hW (b_ord [1, 2, 3, 5, 4, 6, 0, 7, 8] 9 rfl rfl rfl)) (by (omega)) (by (omega))
def lf_25 (fu : Nat) (X : BC) (N : BC) (T : BC) (Yo : Option BC) (L : List Nat) (kd : Nat → Nat) (nu : Nat → Int32) (aa : Nat → Int32) (LR : List Nat) (so : Nat → Nat) (rn : Nat → Nat) (ri : Nat → Nat → Int32) (rl : Nat → Nat → Int64) (M : BC) (Ko : Option BC) (To : Option BC) (x1 : Int32) (post : lwPT) : Prop :=
 q_b3 (f_X0_joy fu X N L kd nu aa x1) fun (r1 : Int32) (X2 : BC) (N3 : BC) =>
 q_b2 (f_X3_joy fu M x1) fun (r6 : Int32) (M7 : BC) =>
 q_ck (decide (r1 = r6)) (post X2 N3 T Yo L kd nu aa LR so rn ri rl M7 Ko To)
set_option maxHeartbeats 4000000 in
set_option maxRecDepth 100000 in
theorem lc_25 {p : Program} {l : Launch} {e : Env} {s : State} {m : MethodId} {below : List Frame} {meth : Method} {c : Code} {H : Heap} {locs : List Loc} {cells slots b len n : Nat} {Q : State → Prop} {xs : Nat → Int32} {adX adT adM adN : Nat → Nat} {tY tK tQ : Option ((Nat → Nat) × BC)} {ls : Array Slot} {D : va_G} {g : Nat → ClassId} {A : Nat → Prop} {X N T : BC} {L : List Nat} {kd : Nat → Nat} {nu aa : Nat → Int32} {LR : List Nat} {so rn : Nat → Nat} {ri : Nat → Nat → Int32} {rl : Nat → Nat → Int64} {M : BC} {fu : Nat} {post : lwPT} (C : lwC p l s m b c A ls adX adM len n xs) (hcs : cells + 10000 ≤ 1200384 ∧ slots + 80000 ≤ 5497258) (hW : bW D g A s H locs (lwB g adX adN adT tY adM tK tQ X N T L kd nu aa LR so rn ri rl M)) (hf : lf_25 fu X N T (tY.map Prod.snd) L kd nu aa LR so rn ri rl M (tK.map Prod.snd) (tQ.map Prod.snd) (xs (n + 1)) post) (kk : lwK p l e s m b below meth c D g A adX adT adM ls Q cells slots post) : W p l e room_1 s m #[.ref b] below meth c H locs cells slots Q (F0 m 1092 ls []) := by
  have C0 := C
  obtain ⟨hx, hb, hml, hown, hts, hst, -, -, -, -, -, hl⟩ := C0
  rw [lf_25] at hf
  have hW : bW D g A s H locs [xW g adX (adN 0) (adT 0) (o_a tY) X, vW g adN N, vW g adT T, oV g tY, gW L kd nu aa, pW g LR so rn ri rl, mW g adM (o_a tK) (o_a tQ) M, oM g tK, oM g tQ] := hW
  refine lv_aload_n hx hb dL_law_1092 rfl (lv_at hl 1 rfl) ?_
  refine lw_arg C hW 1 (K := 1) rfl (by decide) dL_law_1093 dL_law_1094 dL_law_1095 dL_law_1096 dL_law_1097 ?_
  obtain ⟨r1, X2, N3, hc4, hf⟩ := q_b3s hf
  have hp5 : List.Perm (α := va_W) [xW g adX (adN 0) (adT 0) (o_a tY) X, vW g adN N, vW g adT T, oV g tY, gW L kd nu aa, pW g LR so rn ri rl, mW g adM (o_a tK) (o_a tQ) M, oM g tK, oM g tQ] ([xW g adX (adN 0) (adT 0) (o_a tY) X, vW g adN N, gW L kd nu aa] ++ [vW g adT T, oV g tY, pW g LR so rn ri rl, mW g adM (o_a tK) (o_a tQ) M, oM g tK, oM g tQ]) := b_perm [0, 1, 4] [2, 3, 5, 6, 7, 8] 9 rfl rfl rfl rfl
  refine b_call0 ⟨rfl, rfl⟩ (va_runV (As := [.int (xs (n + 1))]) (rest := []) ⟨hx, hb, hml, hown, hts⟩ (m_X0_joy l D g H.size adX (o_a tY) adN adT fu X N L kd nu aa (xs (n + 1)) r1 X2 N3 hc4) (cwV 1 hts (lw_V q1184 q1185 q1186 q76 q1187) rfl rfl rfl (by decide +kernel) ⟨Nat.le_of_ble_eq_true rfl, Nat.le_of_ble_eq_true rfl⟩) (b_preV (pp := 0) (q := 0) hW hp5 rfl xW_0 rfl) rfl rfl hl.1 rfl (lv_room (Nat.le_of_ble_eq_true rfl)) dL_law_1098 ⟨(show cells + 0 ≤ 1200384 from by (omega)), (show slots + 0 ≤ 5497258 from by (omega))⟩) hW hp5 (fun _ _ H locs hW => ?_)
  have hW : bW D g A s H locs [xW g adX (adN 0) (adT 0) (o_a tY) X2, vW g adN N3, gW L kd nu aa, vW g adT T, oV g tY, pW g LR so rn ri rl, mW g adM (o_a tK) (o_a tQ) M, oM g tK, oM g tQ] := hW
  refine lv_aload_n hx hb dL_law_1101 rfl (lv_at hl 2 rfl) ?_
  refine lw_arg C hW 1 (K := 1) rfl (by decide) dL_law_1102 dL_law_1103 dL_law_1104 dL_law_1105 dL_law_1106 ?_
  obtain ⟨r6, M7, hc8, hf⟩ := q_b2s hf
  have hp9 : List.Perm (α := va_W) [xW g adX (adN 0) (adT 0) (o_a tY) X2, vW g adN N3, gW L kd nu aa, vW g adT T, oV g tY, pW g LR so rn ri rl, mW g adM (o_a tK) (o_a tQ) M, oM g tK, oM g tQ] ([mW g adM (o_a tK) (o_a tQ) M] ++ [xW g adX (adN 0) (adT 0) (o_a tY) X2, vW g adN N3, gW L kd nu aa, vW g adT T, oV g tY, pW g LR so rn ri rl, oM g tK, oM g tQ]) := b_perm [6] [0, 1, 2, 3, 4, 5, 7, 8] 9 rfl rfl rfl rfl
  refine b_call0 ⟨rfl, rfl⟩ (va_runV (As := [.int (xs (n + 1))]) (rest := [.int r1]) ⟨hx, hb, hml, hown, hts⟩ (m_X3_joy l D g H.size adM (o_a tK) (o_a tQ) fu M (xs (n + 1)) r6 M7 hc8) (cwV 1 hts (lw_V q1834 q1835 q1836 q79 q1837) rfl rfl rfl (by decide +kernel) ⟨Nat.le_of_ble_eq_true rfl, Nat.le_of_ble_eq_true rfl⟩) (b_preV (pp := 6) (q := 0) hW hp9 rfl mW_0 rfl) rfl rfl hl.1 rfl (lv_room (Nat.le_of_ble_eq_true rfl)) dL_law_1107 ⟨(show cells + 0 ≤ 1200384 from by (omega)), (show slots + 0 ≤ 5497258 from by (omega))⟩) hW hp9 (fun _ _ H locs hW => ?_)
  have hW : bW D g A s H locs [mW g adM (o_a tK) (o_a tQ) M7, xW g adX (adN 0) (adT 0) (o_a tY) X2, vW g adN N3, gW L kd nu aa, vW g adT T, oV g tY, pW g LR so rn ri rl, oM g tK, oM g tQ] := hW
  obtain ⟨he10, hf⟩ := q_cs hf; have he10 := of_decide_eq_true he10
  refine lv_icmp_eq (tgt := 1948) hx hb dL_law_1110 (by decide) (fun _ => ?_) (fun hne => absurd he10 hne)
  exact kk adN tY tK tQ X2 N3 T L kd nu aa LR so rn ri rl M7 _ _ _ _ hf (b_perms (Bs' := [xW g adX (adN 0) (adT 0) (o_a tY) X2, vW g adN N3, vW g adT T, oV g tY, gW L kd nu aa, pW g LR so rn ri rl, mW g adM (o_a tK) (o_a tQ) M7, oM g tK, oM g tQ]) hW (b_ord [1, 2, 4, 5, 3, 6, 0, 7, 8] 9 rfl rfl rfl)) (by (omega)) (by (omega))
def lf_26 (fu : Nat) (X : BC) (N : BC) (T : BC) (Yo : Option BC) (L : List Nat) (kd : Nat → Nat) (nu : Nat → Int32) (aa : Nat → Int32) (LR : List Nat) (so : Nat → Nat) (rn : Nat → Nat) (ri : Nat → Nat → Int32) (rl : Nat → Nat → Int64) (M : BC) (Ko : Option BC) (To : Option BC) (x1 : Int32) (post : lwPT) : Prop :=
 q_b3 (f_X0_taken fu X N L kd nu aa x1) fun (r1 : Int32) (X2 : BC) (N3 : BC) =>
 q_b2 (f_X3_taken fu M x1) fun (r6 : Int32) (M7 : BC) =>
 q_ck (decide (r1 = r6)) (post X2 N3 T Yo L kd nu aa LR so rn ri rl M7 Ko To)
set_option maxHeartbeats 4000000 in
set_option maxRecDepth 100000 in
theorem lc_26 {p : Program} {l : Launch} {e : Env} {s : State} {m : MethodId} {below : List Frame} {meth : Method} {c : Code} {H : Heap} {locs : List Loc} {cells slots b len n : Nat} {Q : State → Prop} {xs : Nat → Int32} {adX adT adM adN : Nat → Nat} {tY tK tQ : Option ((Nat → Nat) × BC)} {ls : Array Slot} {D : va_G} {g : Nat → ClassId} {A : Nat → Prop} {X N T : BC} {L : List Nat} {kd : Nat → Nat} {nu aa : Nat → Int32} {LR : List Nat} {so rn : Nat → Nat} {ri : Nat → Nat → Int32} {rl : Nat → Nat → Int64} {M : BC} {fu : Nat} {post : lwPT} (C : lwC p l s m b c A ls adX adM len n xs) (hcs : cells + 10000 ≤ 1200384 ∧ slots + 80000 ≤ 5497258) (hW : bW D g A s H locs (lwB g adX adN adT tY adM tK tQ X N T L kd nu aa LR so rn ri rl M)) (hf : lf_26 fu X N T (tY.map Prod.snd) L kd nu aa LR so rn ri rl M (tK.map Prod.snd) (tQ.map Prod.snd) (xs (n + 1)) post) (kk : lwK p l e s m b below meth c D g A adX adT adM ls Q cells slots post) : W p l e room_1 s m #[.ref b] below meth c H locs cells slots Q (F0 m 1115 ls []) := by
  have C0 := C
  obtain ⟨hx, hb, hml, hown, hts, hst, -, -, -, -, -, hl⟩ := C0
  rw [lf_26] at hf
  have hW : bW D g A s H locs [xW g adX (adN 0) (adT 0) (o_a tY) X, vW g adN N, vW g adT T, oV g tY, gW L kd nu aa, pW g LR so rn ri rl, mW g adM (o_a tK) (o_a tQ) M, oM g tK, oM g tQ] := hW
  refine lv_aload_n hx hb dL_law_1115 rfl (lv_at hl 1 rfl) ?_
  refine lw_arg C hW 1 (K := 1) rfl (by decide) dL_law_1116 dL_law_1117 dL_law_1118 dL_law_1119 dL_law_1120 ?_
  obtain ⟨r1, X2, N3, hc4, hf⟩ := q_b3s hf
  have hp5 : List.Perm (α := va_W) [xW g adX (adN 0) (adT 0) (o_a tY) X, vW g adN N, vW g adT T, oV g tY, gW L kd nu aa, pW g LR so rn ri rl, mW g adM (o_a tK) (o_a tQ) M, oM g tK, oM g tQ] ([xW g adX (adN 0) (adT 0) (o_a tY) X, vW g adN N, gW L kd nu aa] ++ [vW g adT T, oV g tY, pW g LR so rn ri rl, mW g adM (o_a tK) (o_a tQ) M, oM g tK, oM g tQ]) := b_perm [0, 1, 4] [2, 3, 5, 6, 7, 8] 9 rfl rfl rfl rfl
  refine b_call0 ⟨rfl, rfl⟩ (va_runV (As := [.int (xs (n + 1))]) (rest := []) ⟨hx, hb, hml, hown, hts⟩ (m_X0_taken l D g H.size adX (o_a tY) adN adT fu X N L kd nu aa (xs (n + 1)) r1 X2 N3 hc4) (cwV 1 hts (lw_V q1196 q1197 q1198 q76 q1199) rfl rfl rfl (by decide +kernel) ⟨Nat.le_of_ble_eq_true rfl, Nat.le_of_ble_eq_true rfl⟩) (b_preV (pp := 0) (q := 0) hW hp5 rfl xW_0 rfl) rfl rfl hl.1 rfl (lv_room (Nat.le_of_ble_eq_true rfl)) dL_law_1121 ⟨(show cells + 0 ≤ 1200384 from by (omega)), (show slots + 0 ≤ 5497258 from by (omega))⟩) hW hp5 (fun _ _ H locs hW => ?_)
  have hW : bW D g A s H locs [xW g adX (adN 0) (adT 0) (o_a tY) X2, vW g adN N3, gW L kd nu aa, vW g adT T, oV g tY, pW g LR so rn ri rl, mW g adM (o_a tK) (o_a tQ) M, oM g tK, oM g tQ] := hW
  refine lv_aload_n hx hb dL_law_1124 rfl (lv_at hl 2 rfl) ?_
  refine lw_arg C hW 1 (K := 1) rfl (by decide) dL_law_1125 dL_law_1126 dL_law_1127 dL_law_1128 dL_law_1129 ?_
  obtain ⟨r6, M7, hc8, hf⟩ := q_b2s hf
  have hp9 : List.Perm (α := va_W) [xW g adX (adN 0) (adT 0) (o_a tY) X2, vW g adN N3, gW L kd nu aa, vW g adT T, oV g tY, pW g LR so rn ri rl, mW g adM (o_a tK) (o_a tQ) M, oM g tK, oM g tQ] ([mW g adM (o_a tK) (o_a tQ) M] ++ [xW g adX (adN 0) (adT 0) (o_a tY) X2, vW g adN N3, gW L kd nu aa, vW g adT T, oV g tY, pW g LR so rn ri rl, oM g tK, oM g tQ]) := b_perm [6] [0, 1, 2, 3, 4, 5, 7, 8] 9 rfl rfl rfl rfl
  refine b_call0 ⟨rfl, rfl⟩ (va_runV (As := [.int (xs (n + 1))]) (rest := [.int r1]) ⟨hx, hb, hml, hown, hts⟩ (m_X3_taken l D g H.size adM (o_a tK) (o_a tQ) fu M (xs (n + 1)) r6 M7 hc8) (cwV 1 hts (lw_V q1846 q1847 q1848 q79 q1849) rfl rfl rfl (by decide +kernel) ⟨Nat.le_of_ble_eq_true rfl, Nat.le_of_ble_eq_true rfl⟩) (b_preV (pp := 6) (q := 0) hW hp9 rfl mW_0 rfl) rfl rfl hl.1 rfl (lv_room (Nat.le_of_ble_eq_true rfl)) dL_law_1130 ⟨(show cells + 0 ≤ 1200384 from by (omega)), (show slots + 0 ≤ 5497258 from by (omega))⟩) hW hp9 (fun _ _ H locs hW => ?_)
  have hW : bW D g A s H locs [mW g adM (o_a tK) (o_a tQ) M7, xW g adX (adN 0) (adT 0) (o_a tY) X2, vW g adN N3, gW L kd nu aa, vW g adT T, oV g tY, pW g LR so rn ri rl, oM g tK, oM g tQ] := hW
  obtain ⟨he10, hf⟩ := q_cs hf; have he10 := of_decide_eq_true he10
  refine lv_icmp_eq (tgt := 1948) hx hb dL_law_1133 (by decide) (fun _ => ?_) (fun hne => absurd he10 hne)
  exact kk adN tY tK tQ X2 N3 T L kd nu aa LR so rn ri rl M7 _ _ _ _ hf (b_perms (Bs' := [xW g adX (adN 0) (adT 0) (o_a tY) X2, vW g adN N3, vW g adT T, oV g tY, gW L kd nu aa, pW g LR so rn ri rl, mW g adM (o_a tK) (o_a tQ) M7, oM g tK, oM g tQ]) hW (b_ord [1, 2, 4, 5, 3, 6, 0, 7, 8] 9 rfl rfl rfl)) (by (omega)) (by (omega))
def lf_27 (fu : Nat) (X : BC) (N : BC) (T : BC) (Yo : Option BC) (L : List Nat) (kd : Nat → Nat) (nu : Nat → Int32) (aa : Nat → Int32) (LR : List Nat) (so : Nat → Nat) (rn : Nat → Nat) (ri : Nat → Nat → Int32) (rl : Nat → Nat → Int64) (M : BC) (Ko : Option BC) (To : Option BC) (x1 : Int32) (post : lwPT) : Prop :=
 q_b2 (f_X0_crowd fu X N T L kd nu aa x1) fun (r1 : Int32) (X2 : BC) =>
 q_b2 (f_X3_crowd fu M x1) fun (r5 : Int32) (M6 : BC) =>
 q_ck (decide (r1 = r5)) (post X2 N T Yo L kd nu aa LR so rn ri rl M6 Ko To)
set_option maxHeartbeats 4000000 in
set_option maxRecDepth 100000 in
theorem lc_27 {p : Program} {l : Launch} {e : Env} {s : State} {m : MethodId} {below : List Frame} {meth : Method} {c : Code} {H : Heap} {locs : List Loc} {cells slots b len n : Nat} {Q : State → Prop} {xs : Nat → Int32} {adX adT adM adN : Nat → Nat} {tY tK tQ : Option ((Nat → Nat) × BC)} {ls : Array Slot} {D : va_G} {g : Nat → ClassId} {A : Nat → Prop} {X N T : BC} {L : List Nat} {kd : Nat → Nat} {nu aa : Nat → Int32} {LR : List Nat} {so rn : Nat → Nat} {ri : Nat → Nat → Int32} {rl : Nat → Nat → Int64} {M : BC} {fu : Nat} {post : lwPT} (C : lwC p l s m b c A ls adX adM len n xs) (hcs : cells + 10000 ≤ 1200384 ∧ slots + 80000 ≤ 5497258) (hW : bW D g A s H locs (lwB g adX adN adT tY adM tK tQ X N T L kd nu aa LR so rn ri rl M)) (hf : lf_27 fu X N T (tY.map Prod.snd) L kd nu aa LR so rn ri rl M (tK.map Prod.snd) (tQ.map Prod.snd) (xs (n + 1)) post) (kk : lwK p l e s m b below meth c D g A adX adT adM ls Q cells slots post) : W p l e room_1 s m #[.ref b] below meth c H locs cells slots Q (F0 m 1138 ls []) := by
  have C0 := C
  obtain ⟨hx, hb, hml, hown, hts, hst, -, -, -, -, -, hl⟩ := C0
  rw [lf_27] at hf
  have hW : bW D g A s H locs [xW g adX (adN 0) (adT 0) (o_a tY) X, vW g adN N, vW g adT T, oV g tY, gW L kd nu aa, pW g LR so rn ri rl, mW g adM (o_a tK) (o_a tQ) M, oM g tK, oM g tQ] := hW
  refine lv_aload_n hx hb dL_law_1138 rfl (lv_at hl 1 rfl) ?_
  refine lw_arg C hW 1 (K := 1) rfl (by decide) dL_law_1139 dL_law_1140 dL_law_1141 dL_law_1142 dL_law_1143 ?_
  obtain ⟨r1, X2, hc3, hf⟩ := q_b2s hf
  have hp4 : List.Perm (α := va_W) [xW g adX (adN 0) (adT 0) (o_a tY) X, vW g adN N, vW g adT T, oV g tY, gW L kd nu aa, pW g LR so rn ri rl, mW g adM (o_a tK) (o_a tQ) M, oM g tK, oM g tQ] ([xW g adX (adN 0) (adT 0) (o_a tY) X, vW g adN N, vW g adT T, gW L kd nu aa] ++ [oV g tY, pW g LR so rn ri rl, mW g adM (o_a tK) (o_a tQ) M, oM g tK, oM g tQ]) := b_perm [0, 1, 2, 4] [3, 5, 6, 7, 8] 9 rfl rfl rfl rfl
  refine b_call0 ⟨rfl, rfl⟩ (va_runV (As := [.int (xs (n + 1))]) (rest := []) ⟨hx, hb, hml, hown, hts⟩ (m_X0_crowd l D g H.size adX (o_a tY) adN adT fu X N T L kd nu aa (xs (n + 1)) r1 X2 hc3) (cwV 1 hts (lw_V q1200 q1201 q1202 q76 q1203) rfl rfl rfl (by decide +kernel) ⟨Nat.le_of_ble_eq_true rfl, Nat.le_of_ble_eq_true rfl⟩) (b_preV (pp := 0) (q := 0) hW hp4 rfl xW_0 rfl) rfl rfl hl.1 rfl (lv_room (Nat.le_of_ble_eq_true rfl)) dL_law_1144 ⟨(show cells + 0 ≤ 1200384 from by (omega)), (show slots + 0 ≤ 5497258 from by (omega))⟩) hW hp4 (fun _ _ H locs hW => ?_)
  have hW : bW D g A s H locs [xW g adX (adN 0) (adT 0) (o_a tY) X2, vW g adN N, vW g adT T, gW L kd nu aa, oV g tY, pW g LR so rn ri rl, mW g adM (o_a tK) (o_a tQ) M, oM g tK, oM g tQ] := hW
  refine lv_aload_n hx hb dL_law_1147 rfl (lv_at hl 2 rfl) ?_
  refine lw_arg C hW 1 (K := 1) rfl (by decide) dL_law_1148 dL_law_1149 dL_law_1150 dL_law_1151 dL_law_1152 ?_
  obtain ⟨r5, M6, hc7, hf⟩ := q_b2s hf
  have hp8 : List.Perm (α := va_W) [xW g adX (adN 0) (adT 0) (o_a tY) X2, vW g adN N, vW g adT T, gW L kd nu aa, oV g tY, pW g LR so rn ri rl, mW g adM (o_a tK) (o_a tQ) M, oM g tK, oM g tQ] ([mW g adM (o_a tK) (o_a tQ) M] ++ [xW g adX (adN 0) (adT 0) (o_a tY) X2, vW g adN N, vW g adT T, gW L kd nu aa, oV g tY, pW g LR so rn ri rl, oM g tK, oM g tQ]) := b_perm [6] [0, 1, 2, 3, 4, 5, 7, 8] 9 rfl rfl rfl rfl
  refine b_call0 ⟨rfl, rfl⟩ (va_runV (As := [.int (xs (n + 1))]) (rest := [.int r1]) ⟨hx, hb, hml, hown, hts⟩ (m_X3_crowd l D g H.size adM (o_a tK) (o_a tQ) fu M (xs (n + 1)) r5 M6 hc7) (cwV 1 hts (lw_V q1850 q1851 q1852 q79 q1853) rfl rfl rfl (by decide +kernel) ⟨Nat.le_of_ble_eq_true rfl, Nat.le_of_ble_eq_true rfl⟩) (b_preV (pp := 6) (q := 0) hW hp8 rfl mW_0 rfl) rfl rfl hl.1 rfl (lv_room (Nat.le_of_ble_eq_true rfl)) dL_law_1153 ⟨(show cells + 0 ≤ 1200384 from by (omega)), (show slots + 0 ≤ 5497258 from by (omega))⟩) hW hp8 (fun _ _ H locs hW => ?_)
  have hW : bW D g A s H locs [mW g adM (o_a tK) (o_a tQ) M6, xW g adX (adN 0) (adT 0) (o_a tY) X2, vW g adN N, vW g adT T, gW L kd nu aa, oV g tY, pW g LR so rn ri rl, oM g tK, oM g tQ] := hW
  obtain ⟨he9, hf⟩ := q_cs hf; have he9 := of_decide_eq_true he9
  refine lv_icmp_eq (tgt := 1948) hx hb dL_law_1156 (by decide) (fun _ => ?_) (fun hne => absurd he9 hne)
  exact kk adN tY tK tQ X2 N T L kd nu aa LR so rn ri rl M6 _ _ _ _ hf (b_perms (Bs' := [xW g adX (adN 0) (adT 0) (o_a tY) X2, vW g adN N, vW g adT T, oV g tY, gW L kd nu aa, pW g LR so rn ri rl, mW g adM (o_a tK) (o_a tQ) M6, oM g tK, oM g tQ]) hW (b_ord [1, 2, 3, 5, 4, 6, 0, 7, 8] 9 rfl rfl rfl)) (by (omega)) (by (omega))
def lf_28 (X : BC) (N : BC) (T : BC) (Yo : Option BC) (L : List Nat) (kd : Nat → Nat) (nu : Nat → Int32) (aa : Nat → Int32) (LR : List Nat) (so : Nat → Nat) (rn : Nat → Nat) (ri : Nat → Nat → Int32) (rl : Nat → Nat → Int64) (M : BC) (Ko : Option BC) (To : Option BC) (x1 : Int32) (post : lwPT) : Prop :=
 q_b2 (f_X0_lean X N x1) fun (r1 : Int32) (X2 : BC) =>
 q_b2 (f_X3_lean M x1) fun (r5 : Int32) (M6 : BC) =>
 q_ck (decide (r1 = r5)) (post X2 N T Yo L kd nu aa LR so rn ri rl M6 Ko To)
set_option maxHeartbeats 4000000 in
set_option maxRecDepth 100000 in
theorem lc_28 {p : Program} {l : Launch} {e : Env} {s : State} {m : MethodId} {below : List Frame} {meth : Method} {c : Code} {H : Heap} {locs : List Loc} {cells slots b len n : Nat} {Q : State → Prop} {xs : Nat → Int32} {adX adT adM adN : Nat → Nat} {tY tK tQ : Option ((Nat → Nat) × BC)} {ls : Array Slot} {D : va_G} {g : Nat → ClassId} {A : Nat → Prop} {X N T : BC} {L : List Nat} {kd : Nat → Nat} {nu aa : Nat → Int32} {LR : List Nat} {so rn : Nat → Nat} {ri : Nat → Nat → Int32} {rl : Nat → Nat → Int64} {M : BC} {fu : Nat} {post : lwPT} (C : lwC p l s m b c A ls adX adM len n xs) (hcs : cells + 10000 ≤ 1200384 ∧ slots + 80000 ≤ 5497258) (hW : bW D g A s H locs (lwB g adX adN adT tY adM tK tQ X N T L kd nu aa LR so rn ri rl M)) (hf : lf_28 X N T (tY.map Prod.snd) L kd nu aa LR so rn ri rl M (tK.map Prod.snd) (tQ.map Prod.snd) (xs (n + 1)) post) (kk : lwK p l e s m b below meth c D g A adX adT adM ls Q cells slots post) : W p l e room_1 s m #[.ref b] below meth c H locs cells slots Q (F0 m 1161 ls []) := by
  have C0 := C
  obtain ⟨hx, hb, hml, hown, hts, hst, -, -, -, -, -, hl⟩ := C0
  rw [lf_28] at hf
  have hW : bW D g A s H locs [xW g adX (adN 0) (adT 0) (o_a tY) X, vW g adN N, vW g adT T, oV g tY, gW L kd nu aa, pW g LR so rn ri rl, mW g adM (o_a tK) (o_a tQ) M, oM g tK, oM g tQ] := hW
  refine lv_aload_n hx hb dL_law_1161 rfl (lv_at hl 1 rfl) ?_
  refine lw_arg C hW 1 (K := 1) rfl (by decide) dL_law_1162 dL_law_1163 dL_law_1164 dL_law_1165 dL_law_1166 ?_
  obtain ⟨r1, X2, hc3, hf⟩ := q_b2s hf
  have hp4 : List.Perm (α := va_W) [xW g adX (adN 0) (adT 0) (o_a tY) X, vW g adN N, vW g adT T, oV g tY, gW L kd nu aa, pW g LR so rn ri rl, mW g adM (o_a tK) (o_a tQ) M, oM g tK, oM g tQ] ([xW g adX (adN 0) (adT 0) (o_a tY) X, vW g adN N] ++ [vW g adT T, oV g tY, gW L kd nu aa, pW g LR so rn ri rl, mW g adM (o_a tK) (o_a tQ) M, oM g tK, oM g tQ]) := b_perm [0, 1] [2, 3, 4, 5, 6, 7, 8] 9 rfl rfl rfl rfl
  refine b_call0 ⟨rfl, rfl⟩ (va_runV (As := [.int (xs (n + 1))]) (rest := []) ⟨hx, hb, hml, hown, hts⟩ (m_X0_lean l D g H.size adX (o_a tY) adN adT X N (xs (n + 1)) r1 X2 hc3) (cwV 1 hts (lw_V q1204 q1205 q1206 q76 q1207) rfl rfl rfl (by decide +kernel) ⟨Nat.le_of_ble_eq_true rfl, Nat.le_of_ble_eq_true rfl⟩) (b_preV (pp := 0) (q := 0) hW hp4 rfl xW_0 rfl) rfl rfl hl.1 rfl (lv_room (Nat.le_of_ble_eq_true rfl)) dL_law_1167 ⟨(show cells + 0 ≤ 1200384 from by (omega)), (show slots + 0 ≤ 5497258 from by (omega))⟩) hW hp4 (fun _ _ H locs hW => ?_)
  have hW : bW D g A s H locs [xW g adX (adN 0) (adT 0) (o_a tY) X2, vW g adN N, vW g adT T, oV g tY, gW L kd nu aa, pW g LR so rn ri rl, mW g adM (o_a tK) (o_a tQ) M, oM g tK, oM g tQ] := hW
  refine lv_aload_n hx hb dL_law_1170 rfl (lv_at hl 2 rfl) ?_
  refine lw_arg C hW 1 (K := 1) rfl (by decide) dL_law_1171 dL_law_1172 dL_law_1173 dL_law_1174 dL_law_1175 ?_
  obtain ⟨r5, M6, hc7, hf⟩ := q_b2s hf
  have hp8 : List.Perm (α := va_W) [xW g adX (adN 0) (adT 0) (o_a tY) X2, vW g adN N, vW g adT T, oV g tY, gW L kd nu aa, pW g LR so rn ri rl, mW g adM (o_a tK) (o_a tQ) M, oM g tK, oM g tQ] ([mW g adM (o_a tK) (o_a tQ) M] ++ [xW g adX (adN 0) (adT 0) (o_a tY) X2, vW g adN N, vW g adT T, oV g tY, gW L kd nu aa, pW g LR so rn ri rl, oM g tK, oM g tQ]) := b_perm [6] [0, 1, 2, 3, 4, 5, 7, 8] 9 rfl rfl rfl rfl
  refine b_call0 ⟨rfl, rfl⟩ (va_runV (As := [.int (xs (n + 1))]) (rest := [.int r1]) ⟨hx, hb, hml, hown, hts⟩ (m_X3_lean l D g H.size adM (o_a tK) (o_a tQ) M (xs (n + 1)) r5 M6 hc7) (cwV 1 hts (lw_V q1858 q1859 q1860 q79 q1861) rfl rfl rfl (by decide +kernel) ⟨Nat.le_of_ble_eq_true rfl, Nat.le_of_ble_eq_true rfl⟩) (b_preV (pp := 6) (q := 0) hW hp8 rfl mW_0 rfl) rfl rfl hl.1 rfl (lv_room (Nat.le_of_ble_eq_true rfl)) dL_law_1176 ⟨(show cells + 0 ≤ 1200384 from by (omega)), (show slots + 0 ≤ 5497258 from by (omega))⟩) hW hp8 (fun _ _ H locs hW => ?_)
  have hW : bW D g A s H locs [mW g adM (o_a tK) (o_a tQ) M6, xW g adX (adN 0) (adT 0) (o_a tY) X2, vW g adN N, vW g adT T, oV g tY, gW L kd nu aa, pW g LR so rn ri rl, oM g tK, oM g tQ] := hW
  obtain ⟨he9, hf⟩ := q_cs hf; have he9 := of_decide_eq_true he9
  refine lv_icmp_eq (tgt := 1948) hx hb dL_law_1179 (by decide) (fun _ => ?_) (fun hne => absurd he9 hne)
  exact kk adN tY tK tQ X2 N T L kd nu aa LR so rn ri rl M6 _ _ _ _ hf (b_perms (Bs' := [xW g adX (adN 0) (adT 0) (o_a tY) X2, vW g adN N, vW g adT T, oV g tY, gW L kd nu aa, pW g LR so rn ri rl, mW g adM (o_a tK) (o_a tQ) M6, oM g tK, oM g tQ]) hW (b_ord [1, 2, 3, 4, 5, 6, 0, 7, 8] 9 rfl rfl rfl)) (by (omega)) (by (omega))
def lf_29 (fu : Nat) (X : BC) (N : BC) (T : BC) (Yo : Option BC) (L : List Nat) (kd : Nat → Nat) (nu : Nat → Int32) (aa : Nat → Int32) (LR : List Nat) (so : Nat → Nat) (rn : Nat → Nat) (ri : Nat → Nat → Int32) (rl : Nat → Nat → Int64) (M : BC) (Ko : Option BC) (To : Option BC) (post : lwPT) : Prop :=
 q_b2 (f_X0_truest fu X N T L kd nu aa) fun (r1 : Int32) (X2 : BC) =>
 q_b2 (f_X3_truest fu M) fun (r5 : Int32) (M6 : BC) =>
 q_ck (decide (r1 = r5)) (post X2 N T Yo L kd nu aa LR so rn ri rl M6 Ko To)
set_option maxHeartbeats 4000000 in
set_option maxRecDepth 100000 in
theorem lc_29 {p : Program} {l : Launch} {e : Env} {s : State} {m : MethodId} {below : List Frame} {meth : Method} {c : Code} {H : Heap} {locs : List Loc} {cells slots b len n : Nat} {Q : State → Prop} {xs : Nat → Int32} {adX adT adM adN : Nat → Nat} {tY tK tQ : Option ((Nat → Nat) × BC)} {ls : Array Slot} {D : va_G} {g : Nat → ClassId} {A : Nat → Prop} {X N T : BC} {L : List Nat} {kd : Nat → Nat} {nu aa : Nat → Int32} {LR : List Nat} {so rn : Nat → Nat} {ri : Nat → Nat → Int32} {rl : Nat → Nat → Int64} {M : BC} {fu : Nat} {post : lwPT} (C : lwC p l s m b c A ls adX adM len n xs) (hcs : cells + 10000 ≤ 1200384 ∧ slots + 80000 ≤ 5497258) (hW : bW D g A s H locs (lwB g adX adN adT tY adM tK tQ X N T L kd nu aa LR so rn ri rl M)) (hf : lf_29 fu X N T (tY.map Prod.snd) L kd nu aa LR so rn ri rl M (tK.map Prod.snd) (tQ.map Prod.snd) post) (kk : lwK p l e s m b below meth c D g A adX adT adM ls Q cells slots post) : W p l e room_1 s m #[.ref b] below meth c H locs cells slots Q (F0 m 1184 ls []) := by
  have C0 := C
  obtain ⟨hx, hb, hml, hown, hts, hst, -, -, -, -, -, hl⟩ := C0
  rw [lf_29] at hf
  have hW : bW D g A s H locs [xW g adX (adN 0) (adT 0) (o_a tY) X, vW g adN N, vW g adT T, oV g tY, gW L kd nu aa, pW g LR so rn ri rl, mW g adM (o_a tK) (o_a tQ) M, oM g tK, oM g tQ] := hW
  refine lv_aload_n hx hb dL_law_1184 rfl (lv_at hl 1 rfl) ?_
  obtain ⟨r1, X2, hc3, hf⟩ := q_b2s hf
  have hp4 : List.Perm (α := va_W) [xW g adX (adN 0) (adT 0) (o_a tY) X, vW g adN N, vW g adT T, oV g tY, gW L kd nu aa, pW g LR so rn ri rl, mW g adM (o_a tK) (o_a tQ) M, oM g tK, oM g tQ] ([xW g adX (adN 0) (adT 0) (o_a tY) X, vW g adN N, vW g adT T, gW L kd nu aa] ++ [oV g tY, pW g LR so rn ri rl, mW g adM (o_a tK) (o_a tQ) M, oM g tK, oM g tQ]) := b_perm [0, 1, 2, 4] [3, 5, 6, 7, 8] 9 rfl rfl rfl rfl
  refine b_call0 ⟨rfl, rfl⟩ (va_runV (As := []) (rest := []) ⟨hx, hb, hml, hown, hts⟩ (m_X0_truest l D g H.size adX (o_a tY) adN adT fu X N T L kd nu aa r1 X2 hc3) (cwV 0 hts (lw_V q1208 q1209 q1210 q76 q1211) rfl rfl rfl (by decide +kernel) ⟨Nat.le_of_ble_eq_true rfl, Nat.le_of_ble_eq_true rfl⟩) (b_preV (pp := 0) (q := 0) hW hp4 rfl xW_0 rfl) rfl rfl hl.1 rfl (lv_room (Nat.le_of_ble_eq_true rfl)) dL_law_1185 ⟨(show cells + 0 ≤ 1200384 from by (omega)), (show slots + 0 ≤ 5497258 from by (omega))⟩) hW hp4 (fun _ _ H locs hW => ?_)
  have hW : bW D g A s H locs [xW g adX (adN 0) (adT 0) (o_a tY) X2, vW g adN N, vW g adT T, gW L kd nu aa, oV g tY, pW g LR so rn ri rl, mW g adM (o_a tK) (o_a tQ) M, oM g tK, oM g tQ] := hW
  refine lv_aload_n hx hb dL_law_1188 rfl (lv_at hl 2 rfl) ?_
  obtain ⟨r5, M6, hc7, hf⟩ := q_b2s hf
  have hp8 : List.Perm (α := va_W) [xW g adX (adN 0) (adT 0) (o_a tY) X2, vW g adN N, vW g adT T, gW L kd nu aa, oV g tY, pW g LR so rn ri rl, mW g adM (o_a tK) (o_a tQ) M, oM g tK, oM g tQ] ([mW g adM (o_a tK) (o_a tQ) M] ++ [xW g adX (adN 0) (adT 0) (o_a tY) X2, vW g adN N, vW g adT T, gW L kd nu aa, oV g tY, pW g LR so rn ri rl, oM g tK, oM g tQ]) := b_perm [6] [0, 1, 2, 3, 4, 5, 7, 8] 9 rfl rfl rfl rfl
  refine b_call0 ⟨rfl, rfl⟩ (va_runV (As := []) (rest := [.int r1]) ⟨hx, hb, hml, hown, hts⟩ (m_X3_truest l D g H.size adM (o_a tK) (o_a tQ) fu M r5 M6 hc7) (cwV 0 hts (lw_V q1862 q1863 q1864 q79 q1865) rfl rfl rfl (by decide +kernel) ⟨Nat.le_of_ble_eq_true rfl, Nat.le_of_ble_eq_true rfl⟩) (b_preV (pp := 6) (q := 0) hW hp8 rfl mW_0 rfl) rfl rfl hl.1 rfl (lv_room (Nat.le_of_ble_eq_true rfl)) dL_law_1189 ⟨(show cells + 0 ≤ 1200384 from by (omega)), (show slots + 0 ≤ 5497258 from by (omega))⟩) hW hp8 (fun _ _ H locs hW => ?_)
  have hW : bW D g A s H locs [mW g adM (o_a tK) (o_a tQ) M6, xW g adX (adN 0) (adT 0) (o_a tY) X2, vW g adN N, vW g adT T, gW L kd nu aa, oV g tY, pW g LR so rn ri rl, oM g tK, oM g tQ] := hW
  obtain ⟨he9, hf⟩ := q_cs hf; have he9 := of_decide_eq_true he9
  refine lv_icmp_eq (tgt := 1948) hx hb dL_law_1192 (by decide) (fun _ => ?_) (fun hne => absurd he9 hne)
  exact kk adN tY tK tQ X2 N T L kd nu aa LR so rn ri rl M6 _ _ _ _ hf (b_perms (Bs' := [xW g adX (adN 0) (adT 0) (o_a tY) X2, vW g adN N, vW g adT T, oV g tY, gW L kd nu aa, pW g LR so rn ri rl, mW g adM (o_a tK) (o_a tQ) M6, oM g tK, oM g tQ]) hW (b_ord [1, 2, 3, 5, 4, 6, 0, 7, 8] 9 rfl rfl rfl)) (by (omega)) (by (omega))
