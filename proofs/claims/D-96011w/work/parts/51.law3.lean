/-! THE LAW's cases: printed by gen/lawg.py -/
set_option maxRecDepth 100000
def lf_30 (fu : Nat) (X : BC) (N : BC) (T : BC) (Yo : Option BC) (L : List Nat) (kd : Nat → Nat) (nu : Nat → Int32) (aa : Nat → Int32) (LR : List Nat) (so : Nat → Nat) (rn : Nat → Nat) (ri : Nat → Nat → Int32) (rl : Nat → Nat → Int64) (M : BC) (Ko : Option BC) (To : Option BC) (post : lwPT) : Prop :=
 q_b1 (f_X0_oldest fu X N T L kd nu aa) fun (r1 : Int32) =>
 q_b1 (f_X3_oldest fu M) fun (r4 : Int32) =>
 q_ck (decide (r1 = r4)) (post X N T Yo L kd nu aa LR so rn ri rl M Ko To)
set_option maxHeartbeats 4000000 in
set_option maxRecDepth 100000 in
theorem lc_30 {p : Program} {l : Launch} {e : Env} {s : State} {m : MethodId} {below : List Frame} {meth : Method} {c : Code} {H : Heap} {locs : List Loc} {cells slots b len n : Nat} {Q : State → Prop} {xs : Nat → Int32} {adX adT adM adN : Nat → Nat} {tY tK tQ : Option ((Nat → Nat) × BC)} {ls : Array Slot} {D : va_G} {g : Nat → ClassId} {A : Nat → Prop} {X N T : BC} {L : List Nat} {kd : Nat → Nat} {nu aa : Nat → Int32} {LR : List Nat} {so rn : Nat → Nat} {ri : Nat → Nat → Int32} {rl : Nat → Nat → Int64} {M : BC} {fu : Nat} {post : lwPT} (C : lwC p l s m b c A ls adX adM len n xs) (hcs : cells + 10000 ≤ 1200384 ∧ slots + 80000 ≤ 5497258) (hW : bW D g A s H locs (lwB g adX adN adT tY adM tK tQ X N T L kd nu aa LR so rn ri rl M)) (hf : lf_30 fu X N T (tY.map Prod.snd) L kd nu aa LR so rn ri rl M (tK.map Prod.snd) (tQ.map Prod.snd) post) (kk : lwK p l e s m b below meth c D g A adX adT adM ls Q cells slots post) : W p l e room_1 s m #[.ref b] below meth c H locs cells slots Q (F0 m 1197 ls []) := by
  have C0 := C
  obtain ⟨hx, hb, hml, hown, hts, hst, -, -, -, -, -, hl⟩ := C0
  rw [lf_30] at hf
  have hW : bW D g A s H locs [xW g adX (adN 0) (adT 0) (o_a tY) X, vW g adN N, vW g adT T, oV g tY, gW L kd nu aa, pW g LR so rn ri rl, mW g adM (o_a tK) (o_a tQ) M, oM g tK, oM g tQ] := hW
  refine lv_aload_n hx hb dL_law_1197 rfl (lv_at hl 1 rfl) ?_
  obtain ⟨r1, hc2, hf⟩ := q_b1s hf
  have hp3 : List.Perm (α := va_W) [xW g adX (adN 0) (adT 0) (o_a tY) X, vW g adN N, vW g adT T, oV g tY, gW L kd nu aa, pW g LR so rn ri rl, mW g adM (o_a tK) (o_a tQ) M, oM g tK, oM g tQ] ([xW g adX (adN 0) (adT 0) (o_a tY) X, vW g adN N, vW g adT T, gW L kd nu aa] ++ [oV g tY, pW g LR so rn ri rl, mW g adM (o_a tK) (o_a tQ) M, oM g tK, oM g tQ]) := b_perm [0, 1, 2, 4] [3, 5, 6, 7, 8] 9 rfl rfl rfl rfl
  refine b_call0 ⟨rfl, rfl⟩ (va_runV (As := []) (rest := []) ⟨hx, hb, hml, hown, hts⟩ (m_X0_oldest l D g H.size adX (o_a tY) adN adT fu X N T L kd nu aa r1 hc2) (cwV 0 hts (lw_V q1212 q1213 q1214 q76 q1215) rfl rfl rfl (by decide +kernel) ⟨Nat.le_of_ble_eq_true rfl, Nat.le_of_ble_eq_true rfl⟩) (b_preV (pp := 0) (q := 0) hW hp3 rfl xW_0 rfl) rfl rfl hl.1 rfl (lv_room (Nat.le_of_ble_eq_true rfl)) dL_law_1198 ⟨(show cells + 0 ≤ 1200384 from by (omega)), (show slots + 0 ≤ 5497258 from by (omega))⟩) hW hp3 (fun _ _ H locs hW => ?_)
  have hW : bW D g A s H locs [xW g adX (adN 0) (adT 0) (o_a tY) X, vW g adN N, vW g adT T, gW L kd nu aa, oV g tY, pW g LR so rn ri rl, mW g adM (o_a tK) (o_a tQ) M, oM g tK, oM g tQ] := hW
  refine lv_aload_n hx hb dL_law_1201 rfl (lv_at hl 2 rfl) ?_
  obtain ⟨r4, hc5, hf⟩ := q_b1s hf
  have hp6 : List.Perm (α := va_W) [xW g adX (adN 0) (adT 0) (o_a tY) X, vW g adN N, vW g adT T, gW L kd nu aa, oV g tY, pW g LR so rn ri rl, mW g adM (o_a tK) (o_a tQ) M, oM g tK, oM g tQ] ([mW g adM (o_a tK) (o_a tQ) M] ++ [xW g adX (adN 0) (adT 0) (o_a tY) X, vW g adN N, vW g adT T, gW L kd nu aa, oV g tY, pW g LR so rn ri rl, oM g tK, oM g tQ]) := b_perm [6] [0, 1, 2, 3, 4, 5, 7, 8] 9 rfl rfl rfl rfl
  refine b_call0 ⟨rfl, rfl⟩ (va_runV (As := []) (rest := [.int r1]) ⟨hx, hb, hml, hown, hts⟩ (m_X3_oldest l D g H.size adM (o_a tK) (o_a tQ) fu M r4 hc5) (cwV 0 hts (lw_V q1870 q1871 q1872 q79 q1873) rfl rfl rfl (by decide +kernel) ⟨Nat.le_of_ble_eq_true rfl, Nat.le_of_ble_eq_true rfl⟩) (b_preV (pp := 6) (q := 0) hW hp6 rfl mW_0 rfl) rfl rfl hl.1 rfl (lv_room (Nat.le_of_ble_eq_true rfl)) dL_law_1202 ⟨(show cells + 0 ≤ 1200384 from by (omega)), (show slots + 0 ≤ 5497258 from by (omega))⟩) hW hp6 (fun _ _ H locs hW => ?_)
  have hW : bW D g A s H locs [mW g adM (o_a tK) (o_a tQ) M, xW g adX (adN 0) (adT 0) (o_a tY) X, vW g adN N, vW g adT T, gW L kd nu aa, oV g tY, pW g LR so rn ri rl, oM g tK, oM g tQ] := hW
  obtain ⟨he7, hf⟩ := q_cs hf; have he7 := of_decide_eq_true he7
  refine lv_icmp_eq (tgt := 1948) hx hb dL_law_1205 (by decide) (fun _ => ?_) (fun hne => absurd he7 hne)
  exact kk adN tY tK tQ X N T L kd nu aa LR so rn ri rl M _ _ _ _ hf (b_perms (Bs' := [xW g adX (adN 0) (adT 0) (o_a tY) X, vW g adN N, vW g adT T, oV g tY, gW L kd nu aa, pW g LR so rn ri rl, mW g adM (o_a tK) (o_a tQ) M, oM g tK, oM g tQ]) hW (b_ord [1, 2, 3, 5, 4, 6, 0, 7, 8] 9 rfl rfl rfl)) (by (omega)) (by (omega))
def lf_31 (fu : Nat) (X : BC) (N : BC) (T : BC) (Yo : Option BC) (L : List Nat) (kd : Nat → Nat) (nu : Nat → Int32) (aa : Nat → Int32) (LR : List Nat) (so : Nat → Nat) (rn : Nat → Nat) (ri : Nat → Nat → Int32) (rl : Nat → Nat → Int64) (M : BC) (Ko : Option BC) (To : Option BC) (x1 : Int32) (post : lwPT) : Prop :=
 q_b3 (f_X0_enough fu X N T L kd nu aa x1) fun (r1 : Int32) (X2 : BC) (T3 : BC) =>
 q_b2 (f_X3_enough fu M x1) fun (r6 : Int32) (M7 : BC) =>
 q_ck (decide (r1 = r6)) (post X2 N T3 Yo L kd nu aa LR so rn ri rl M7 Ko To)
set_option maxHeartbeats 4000000 in
set_option maxRecDepth 100000 in
theorem lc_31 {p : Program} {l : Launch} {e : Env} {s : State} {m : MethodId} {below : List Frame} {meth : Method} {c : Code} {H : Heap} {locs : List Loc} {cells slots b len n : Nat} {Q : State → Prop} {xs : Nat → Int32} {adX adT adM adN : Nat → Nat} {tY tK tQ : Option ((Nat → Nat) × BC)} {ls : Array Slot} {D : va_G} {g : Nat → ClassId} {A : Nat → Prop} {X N T : BC} {L : List Nat} {kd : Nat → Nat} {nu aa : Nat → Int32} {LR : List Nat} {so rn : Nat → Nat} {ri : Nat → Nat → Int32} {rl : Nat → Nat → Int64} {M : BC} {fu : Nat} {post : lwPT} (C : lwC p l s m b c A ls adX adM len n xs) (hcs : cells + 10000 ≤ 1200384 ∧ slots + 80000 ≤ 5497258) (hW : bW D g A s H locs (lwB g adX adN adT tY adM tK tQ X N T L kd nu aa LR so rn ri rl M)) (hf : lf_31 fu X N T (tY.map Prod.snd) L kd nu aa LR so rn ri rl M (tK.map Prod.snd) (tQ.map Prod.snd) (xs (n + 1)) post) (kk : lwK p l e s m b below meth c D g A adX adT adM ls Q cells slots post) : W p l e room_1 s m #[.ref b] below meth c H locs cells slots Q (F0 m 1210 ls []) := by
  have C0 := C
  obtain ⟨hx, hb, hml, hown, hts, hst, -, -, -, -, -, hl⟩ := C0
  rw [lf_31] at hf
  have hW : bW D g A s H locs [xW g adX (adN 0) (adT 0) (o_a tY) X, vW g adN N, vW g adT T, oV g tY, gW L kd nu aa, pW g LR so rn ri rl, mW g adM (o_a tK) (o_a tQ) M, oM g tK, oM g tQ] := hW
  refine lv_aload_n hx hb dL_law_1210 rfl (lv_at hl 1 rfl) ?_
  refine lw_arg C hW 1 (K := 1) rfl (by decide) dL_law_1211 dL_law_1212 dL_law_1213 dL_law_1214 dL_law_1215 ?_
  obtain ⟨r1, X2, T3, hc4, hf⟩ := q_b3s hf
  have hp5 : List.Perm (α := va_W) [xW g adX (adN 0) (adT 0) (o_a tY) X, vW g adN N, vW g adT T, oV g tY, gW L kd nu aa, pW g LR so rn ri rl, mW g adM (o_a tK) (o_a tQ) M, oM g tK, oM g tQ] ([xW g adX (adN 0) (adT 0) (o_a tY) X, vW g adN N, vW g adT T, gW L kd nu aa] ++ [oV g tY, pW g LR so rn ri rl, mW g adM (o_a tK) (o_a tQ) M, oM g tK, oM g tQ]) := b_perm [0, 1, 2, 4] [3, 5, 6, 7, 8] 9 rfl rfl rfl rfl
  refine b_call0 ⟨rfl, rfl⟩ (va_runV (As := [.int (xs (n + 1))]) (rest := []) ⟨hx, hb, hml, hown, hts⟩ (m_X0_enough l D g H.size adX (o_a tY) adN adT fu X N T L kd nu aa (xs (n + 1)) r1 X2 T3 hc4) (cwV 1 hts (lw_V q1219 q1220 q1221 q76 q1222) rfl rfl rfl (by decide +kernel) ⟨Nat.le_of_ble_eq_true rfl, Nat.le_of_ble_eq_true rfl⟩) (b_preV (pp := 0) (q := 0) hW hp5 rfl xW_0 rfl) rfl rfl hl.1 rfl (lv_room (Nat.le_of_ble_eq_true rfl)) dL_law_1216 ⟨(show cells + 0 ≤ 1200384 from by (omega)), (show slots + 0 ≤ 5497258 from by (omega))⟩) hW hp5 (fun _ _ H locs hW => ?_)
  have hW : bW D g A s H locs [xW g adX (adN 0) (adT 0) (o_a tY) X2, vW g adN N, vW g adT T3, gW L kd nu aa, oV g tY, pW g LR so rn ri rl, mW g adM (o_a tK) (o_a tQ) M, oM g tK, oM g tQ] := hW
  refine lv_aload_n hx hb dL_law_1219 rfl (lv_at hl 2 rfl) ?_
  refine lw_arg C hW 1 (K := 1) rfl (by decide) dL_law_1220 dL_law_1221 dL_law_1222 dL_law_1223 dL_law_1224 ?_
  obtain ⟨r6, M7, hc8, hf⟩ := q_b2s hf
  have hp9 : List.Perm (α := va_W) [xW g adX (adN 0) (adT 0) (o_a tY) X2, vW g adN N, vW g adT T3, gW L kd nu aa, oV g tY, pW g LR so rn ri rl, mW g adM (o_a tK) (o_a tQ) M, oM g tK, oM g tQ] ([mW g adM (o_a tK) (o_a tQ) M] ++ [xW g adX (adN 0) (adT 0) (o_a tY) X2, vW g adN N, vW g adT T3, gW L kd nu aa, oV g tY, pW g LR so rn ri rl, oM g tK, oM g tQ]) := b_perm [6] [0, 1, 2, 3, 4, 5, 7, 8] 9 rfl rfl rfl rfl
  refine b_call0 ⟨rfl, rfl⟩ (va_runV (As := [.int (xs (n + 1))]) (rest := [.int r1]) ⟨hx, hb, hml, hown, hts⟩ (m_X3_enough l D g H.size adM (o_a tK) (o_a tQ) fu M (xs (n + 1)) r6 M7 hc8) (cwV 1 hts (lw_V q1878 q1879 q1880 q79 q1881) rfl rfl rfl (by decide +kernel) ⟨Nat.le_of_ble_eq_true rfl, Nat.le_of_ble_eq_true rfl⟩) (b_preV (pp := 6) (q := 0) hW hp9 rfl mW_0 rfl) rfl rfl hl.1 rfl (lv_room (Nat.le_of_ble_eq_true rfl)) dL_law_1225 ⟨(show cells + 0 ≤ 1200384 from by (omega)), (show slots + 0 ≤ 5497258 from by (omega))⟩) hW hp9 (fun _ _ H locs hW => ?_)
  have hW : bW D g A s H locs [mW g adM (o_a tK) (o_a tQ) M7, xW g adX (adN 0) (adT 0) (o_a tY) X2, vW g adN N, vW g adT T3, gW L kd nu aa, oV g tY, pW g LR so rn ri rl, oM g tK, oM g tQ] := hW
  obtain ⟨he10, hf⟩ := q_cs hf; have he10 := of_decide_eq_true he10
  refine lv_icmp_eq (tgt := 1948) hx hb dL_law_1228 (by decide) (fun _ => ?_) (fun hne => absurd he10 hne)
  exact kk adN tY tK tQ X2 N T3 L kd nu aa LR so rn ri rl M7 _ _ _ _ hf (b_perms (Bs' := [xW g adX (adN 0) (adT 0) (o_a tY) X2, vW g adN N, vW g adT T3, oV g tY, gW L kd nu aa, pW g LR so rn ri rl, mW g adM (o_a tK) (o_a tQ) M7, oM g tK, oM g tQ]) hW (b_ord [1, 2, 3, 5, 4, 6, 0, 7, 8] 9 rfl rfl rfl)) (by (omega)) (by (omega))
def lf_32 (fu : Nat) (X : BC) (N : BC) (T : BC) (Yo : Option BC) (L : List Nat) (kd : Nat → Nat) (nu : Nat → Int32) (aa : Nat → Int32) (LR : List Nat) (so : Nat → Nat) (rn : Nat → Nat) (ri : Nat → Nat → Int32) (rl : Nat → Nat → Int64) (M : BC) (Ko : Option BC) (To : Option BC) (x1 : Int32) (post : lwPT) : Prop :=
 f_X0_better fu X N T L kd nu aa x1 (fun (r1 : Int32) (X2 : BC) (T3 : BC) (L4 : List Nat) (kd5 : Nat → Nat) (nu6 : Nat → Int32) (aa7 : Nat → Int32) =>
 q_b2 (f_X3_better fu M x1) fun (r10 : Int32) (M11 : BC) =>
 q_ck (decide (r1 = r10)) (post X2 N T3 Yo L4 kd5 nu6 aa7 LR so rn ri rl M11 Ko To))
set_option maxHeartbeats 4000000 in
set_option maxRecDepth 100000 in
theorem lc_32 {p : Program} {l : Launch} {e : Env} {s : State} {m : MethodId} {below : List Frame} {meth : Method} {c : Code} {H : Heap} {locs : List Loc} {cells slots b len n : Nat} {Q : State → Prop} {xs : Nat → Int32} {adX adT adM adN : Nat → Nat} {tY tK tQ : Option ((Nat → Nat) × BC)} {ls : Array Slot} {D : va_G} {g : Nat → ClassId} {A : Nat → Prop} {X N T : BC} {L : List Nat} {kd : Nat → Nat} {nu aa : Nat → Int32} {LR : List Nat} {so rn : Nat → Nat} {ri : Nat → Nat → Int32} {rl : Nat → Nat → Int64} {M : BC} {fu : Nat} {post : lwPT} (C : lwC p l s m b c A ls adX adM len n xs) (hfu : fu ≤ 300) (hcs : cells + 10000 ≤ 1200384 ∧ slots + 80000 ≤ 5497258) (hW : bW D g A s H locs (lwB g adX adN adT tY adM tK tQ X N T L kd nu aa LR so rn ri rl M)) (hf : lf_32 fu X N T (tY.map Prod.snd) L kd nu aa LR so rn ri rl M (tK.map Prod.snd) (tQ.map Prod.snd) (xs (n + 1)) post) (kk : lwK p l e s m b below meth c D g A adX adT adM ls Q cells slots post) : W p l e room_1 s m #[.ref b] below meth c H locs cells slots Q (F0 m 1233 ls []) := by
  have C0 := C
  obtain ⟨hx, hb, hml, hown, hts, hst, -, -, -, -, -, hl⟩ := C0
  rw [lf_32] at hf
  have hW : bW D g A s H locs [xW g adX (adN 0) (adT 0) (o_a tY) X, vW g adN N, vW g adT T, oV g tY, gW L kd nu aa, pW g LR so rn ri rl, mW g adM (o_a tK) (o_a tQ) M, oM g tK, oM g tQ] := hW
  refine lv_aload_n hx hb dL_law_1233 rfl (lv_at hl 1 rfl) ?_
  refine lw_arg C hW 1 (K := 1) rfl (by decide) dL_law_1234 dL_law_1235 dL_law_1236 dL_law_1237 dL_law_1238 ?_
  have hp8 : List.Perm (α := va_W) [xW g adX (adN 0) (adT 0) (o_a tY) X, vW g adN N, vW g adT T, oV g tY, gW L kd nu aa, pW g LR so rn ri rl, mW g adM (o_a tK) (o_a tQ) M, oM g tK, oM g tQ] ([xW g adX (adN 0) (adT 0) (o_a tY) X, vW g adN N, vW g adT T, gW L kd nu aa] ++ [oV g tY, pW g LR so rn ri rl, mW g adM (o_a tK) (o_a tQ) M, oM g tK, oM g tQ]) := b_perm [0, 1, 2, 4] [3, 5, 6, 7, 8] 9 rfl rfl rfl rfl
  refine b_call (va_runV (As := [.int (xs (n + 1))]) (rest := []) ⟨hx, hb, hml, hown, hts⟩ (m_X0_better l D g H.size adX (o_a tY) adN adT fu X N T L kd nu aa (xs (n + 1)) _ hf) (cwV 1 hts (lw_V q1228 q1229 q1230 q76 q1231) rfl rfl rfl (by decide +kernel) ⟨Nat.le_of_ble_eq_true rfl, Nat.le_of_ble_eq_true rfl⟩) (b_preV (pp := 0) (q := 0) hW hp8 rfl xW_0 rfl) rfl rfl hl.1 rfl (lv_room (Nat.le_of_ble_eq_true rfl)) dL_law_1239 ⟨(show cells + (fu * 1) ≤ 1200384 from by (omega)), (show slots + (fu * 2) ≤ 5497258 from by (omega))⟩) hW hp8 (fun u9 hf H locs hW => ?_)
  refine W.cs (cells' := (cells + (fu * 1))) (slots' := (slots + (fu * 2))) rfl rfl ?_
  try dsimp only at hf hW
  obtain ⟨r1, X2, T3, L4, kd5, nu6, aa7⟩ := u9; try dsimp only at hf hW ⊢
  have hW : bW D g A s H locs [xW g adX (adN 0) (adT 0) (o_a tY) X2, vW g adN N, vW g adT T3, gW L4 kd5 nu6 aa7, oV g tY, pW g LR so rn ri rl, mW g adM (o_a tK) (o_a tQ) M, oM g tK, oM g tQ] := hW
  refine lv_aload_n hx hb dL_law_1242 rfl (lv_at hl 2 rfl) ?_
  refine lw_arg C hW 1 (K := 1) rfl (by decide) dL_law_1243 dL_law_1244 dL_law_1245 dL_law_1246 dL_law_1247 ?_
  obtain ⟨r10, M11, hc12, hf⟩ := q_b2s hf
  have hp13 : List.Perm (α := va_W) [xW g adX (adN 0) (adT 0) (o_a tY) X2, vW g adN N, vW g adT T3, gW L4 kd5 nu6 aa7, oV g tY, pW g LR so rn ri rl, mW g adM (o_a tK) (o_a tQ) M, oM g tK, oM g tQ] ([mW g adM (o_a tK) (o_a tQ) M] ++ [xW g adX (adN 0) (adT 0) (o_a tY) X2, vW g adN N, vW g adT T3, gW L4 kd5 nu6 aa7, oV g tY, pW g LR so rn ri rl, oM g tK, oM g tQ]) := b_perm [6] [0, 1, 2, 3, 4, 5, 7, 8] 9 rfl rfl rfl rfl
  refine b_call0 ⟨rfl, rfl⟩ (va_runV (As := [.int (xs (n + 1))]) (rest := [.int r1]) ⟨hx, hb, hml, hown, hts⟩ (m_X3_better l D g H.size adM (o_a tK) (o_a tQ) fu M (xs (n + 1)) r10 M11 hc12) (cwV 1 hts (lw_V q1882 q1883 q1884 q79 q1885) rfl rfl rfl (by decide +kernel) ⟨Nat.le_of_ble_eq_true rfl, Nat.le_of_ble_eq_true rfl⟩) (b_preV (pp := 6) (q := 0) hW hp13 rfl mW_0 rfl) rfl rfl hl.1 rfl (lv_room (Nat.le_of_ble_eq_true rfl)) dL_law_1248 ⟨(show (cells + (fu * 1)) + 0 ≤ 1200384 from by (omega)), (show (slots + (fu * 2)) + 0 ≤ 5497258 from by (omega))⟩) hW hp13 (fun _ _ H locs hW => ?_)
  have hW : bW D g A s H locs [mW g adM (o_a tK) (o_a tQ) M11, xW g adX (adN 0) (adT 0) (o_a tY) X2, vW g adN N, vW g adT T3, gW L4 kd5 nu6 aa7, oV g tY, pW g LR so rn ri rl, oM g tK, oM g tQ] := hW
  obtain ⟨he14, hf⟩ := q_cs hf; have he14 := of_decide_eq_true he14
  refine lv_icmp_eq (tgt := 1948) hx hb dL_law_1251 (by decide) (fun _ => ?_) (fun hne => absurd he14 hne)
  exact kk adN tY tK tQ X2 N T3 L4 kd5 nu6 aa7 LR so rn ri rl M11 _ _ _ _ hf (b_perms (Bs' := [xW g adX (adN 0) (adT 0) (o_a tY) X2, vW g adN N, vW g adT T3, oV g tY, gW L4 kd5 nu6 aa7, pW g LR so rn ri rl, mW g adM (o_a tK) (o_a tQ) M11, oM g tK, oM g tQ]) hW (b_ord [1, 2, 3, 5, 4, 6, 0, 7, 8] 9 rfl rfl rfl)) (by (omega)) (by (omega))
def lf_33 (fu : Nat) (X : BC) (N : BC) (T : BC) (Yo : Option BC) (L : List Nat) (kd : Nat → Nat) (nu : Nat → Int32) (aa : Nat → Int32) (LR : List Nat) (so : Nat → Nat) (rn : Nat → Nat) (ri : Nat → Nat → Int32) (rl : Nat → Nat → Int64) (M : BC) (Ko : Option BC) (To : Option BC) (x1 : Int32) (post : lwPT) : Prop :=
 q_b3 (f_X0_trust fu X N T L kd nu aa x1) fun (r1 : Int32) (X2 : BC) (T3 : BC) =>
 q_b2 (f_X3_trust fu M x1) fun (r6 : Int32) (M7 : BC) =>
 q_ck (decide (r1 = r6)) (post X2 N T3 Yo L kd nu aa LR so rn ri rl M7 Ko To)
set_option maxHeartbeats 4000000 in
set_option maxRecDepth 100000 in
theorem lc_33 {p : Program} {l : Launch} {e : Env} {s : State} {m : MethodId} {below : List Frame} {meth : Method} {c : Code} {H : Heap} {locs : List Loc} {cells slots b len n : Nat} {Q : State → Prop} {xs : Nat → Int32} {adX adT adM adN : Nat → Nat} {tY tK tQ : Option ((Nat → Nat) × BC)} {ls : Array Slot} {D : va_G} {g : Nat → ClassId} {A : Nat → Prop} {X N T : BC} {L : List Nat} {kd : Nat → Nat} {nu aa : Nat → Int32} {LR : List Nat} {so rn : Nat → Nat} {ri : Nat → Nat → Int32} {rl : Nat → Nat → Int64} {M : BC} {fu : Nat} {post : lwPT} (C : lwC p l s m b c A ls adX adM len n xs) (hcs : cells + 10000 ≤ 1200384 ∧ slots + 80000 ≤ 5497258) (hW : bW D g A s H locs (lwB g adX adN adT tY adM tK tQ X N T L kd nu aa LR so rn ri rl M)) (hf : lf_33 fu X N T (tY.map Prod.snd) L kd nu aa LR so rn ri rl M (tK.map Prod.snd) (tQ.map Prod.snd) (xs (n + 1)) post) (kk : lwK p l e s m b below meth c D g A adX adT adM ls Q cells slots post) : W p l e room_1 s m #[.ref b] below meth c H locs cells slots Q (F0 m 1256 ls []) := by
  have C0 := C
  obtain ⟨hx, hb, hml, hown, hts, hst, -, -, -, -, -, hl⟩ := C0
  rw [lf_33] at hf
  have hW : bW D g A s H locs [xW g adX (adN 0) (adT 0) (o_a tY) X, vW g adN N, vW g adT T, oV g tY, gW L kd nu aa, pW g LR so rn ri rl, mW g adM (o_a tK) (o_a tQ) M, oM g tK, oM g tQ] := hW
  refine lv_aload_n hx hb dL_law_1256 rfl (lv_at hl 1 rfl) ?_
  refine lw_arg C hW 1 (K := 1) rfl (by decide) dL_law_1257 dL_law_1258 dL_law_1259 dL_law_1260 dL_law_1261 ?_
  obtain ⟨r1, X2, T3, hc4, hf⟩ := q_b3s hf
  have hp5 : List.Perm (α := va_W) [xW g adX (adN 0) (adT 0) (o_a tY) X, vW g adN N, vW g adT T, oV g tY, gW L kd nu aa, pW g LR so rn ri rl, mW g adM (o_a tK) (o_a tQ) M, oM g tK, oM g tQ] ([xW g adX (adN 0) (adT 0) (o_a tY) X, vW g adN N, vW g adT T, gW L kd nu aa] ++ [oV g tY, pW g LR so rn ri rl, mW g adM (o_a tK) (o_a tQ) M, oM g tK, oM g tQ]) := b_perm [0, 1, 2, 4] [3, 5, 6, 7, 8] 9 rfl rfl rfl rfl
  refine b_call0 ⟨rfl, rfl⟩ (va_runV (As := [.int (xs (n + 1))]) (rest := []) ⟨hx, hb, hml, hown, hts⟩ (m_X0_trust l D g H.size adX (o_a tY) adN adT fu X N T L kd nu aa (xs (n + 1)) r1 X2 T3 hc4) (cwV 1 hts (lw_V q1232 q1233 q1234 q76 q1235) rfl rfl rfl (by decide +kernel) ⟨Nat.le_of_ble_eq_true rfl, Nat.le_of_ble_eq_true rfl⟩) (b_preV (pp := 0) (q := 0) hW hp5 rfl xW_0 rfl) rfl rfl hl.1 rfl (lv_room (Nat.le_of_ble_eq_true rfl)) dL_law_1262 ⟨(show cells + 0 ≤ 1200384 from by (omega)), (show slots + 0 ≤ 5497258 from by (omega))⟩) hW hp5 (fun _ _ H locs hW => ?_)
  have hW : bW D g A s H locs [xW g adX (adN 0) (adT 0) (o_a tY) X2, vW g adN N, vW g adT T3, gW L kd nu aa, oV g tY, pW g LR so rn ri rl, mW g adM (o_a tK) (o_a tQ) M, oM g tK, oM g tQ] := hW
  refine lv_aload_n hx hb dL_law_1265 rfl (lv_at hl 2 rfl) ?_
  refine lw_arg C hW 1 (K := 1) rfl (by decide) dL_law_1266 dL_law_1267 dL_law_1268 dL_law_1269 dL_law_1270 ?_
  obtain ⟨r6, M7, hc8, hf⟩ := q_b2s hf
  have hp9 : List.Perm (α := va_W) [xW g adX (adN 0) (adT 0) (o_a tY) X2, vW g adN N, vW g adT T3, gW L kd nu aa, oV g tY, pW g LR so rn ri rl, mW g adM (o_a tK) (o_a tQ) M, oM g tK, oM g tQ] ([mW g adM (o_a tK) (o_a tQ) M] ++ [xW g adX (adN 0) (adT 0) (o_a tY) X2, vW g adN N, vW g adT T3, gW L kd nu aa, oV g tY, pW g LR so rn ri rl, oM g tK, oM g tQ]) := b_perm [6] [0, 1, 2, 3, 4, 5, 7, 8] 9 rfl rfl rfl rfl
  refine b_call0 ⟨rfl, rfl⟩ (va_runV (As := [.int (xs (n + 1))]) (rest := [.int r1]) ⟨hx, hb, hml, hown, hts⟩ (m_X3_trust l D g H.size adM (o_a tK) (o_a tQ) fu M (xs (n + 1)) r6 M7 hc8) (cwV 1 hts (lw_V q1886 q1887 q1888 q79 q1889) rfl rfl rfl (by decide +kernel) ⟨Nat.le_of_ble_eq_true rfl, Nat.le_of_ble_eq_true rfl⟩) (b_preV (pp := 6) (q := 0) hW hp9 rfl mW_0 rfl) rfl rfl hl.1 rfl (lv_room (Nat.le_of_ble_eq_true rfl)) dL_law_1271 ⟨(show cells + 0 ≤ 1200384 from by (omega)), (show slots + 0 ≤ 5497258 from by (omega))⟩) hW hp9 (fun _ _ H locs hW => ?_)
  have hW : bW D g A s H locs [mW g adM (o_a tK) (o_a tQ) M7, xW g adX (adN 0) (adT 0) (o_a tY) X2, vW g adN N, vW g adT T3, gW L kd nu aa, oV g tY, pW g LR so rn ri rl, oM g tK, oM g tQ] := hW
  obtain ⟨he10, hf⟩ := q_cs hf; have he10 := of_decide_eq_true he10
  refine lv_icmp_eq (tgt := 1948) hx hb dL_law_1274 (by decide) (fun _ => ?_) (fun hne => absurd he10 hne)
  exact kk adN tY tK tQ X2 N T3 L kd nu aa LR so rn ri rl M7 _ _ _ _ hf (b_perms (Bs' := [xW g adX (adN 0) (adT 0) (o_a tY) X2, vW g adN N, vW g adT T3, oV g tY, gW L kd nu aa, pW g LR so rn ri rl, mW g adM (o_a tK) (o_a tQ) M7, oM g tK, oM g tQ]) hW (b_ord [1, 2, 3, 5, 4, 6, 0, 7, 8] 9 rfl rfl rfl)) (by (omega)) (by (omega))
def lf_34 (fu : Nat) (X : BC) (N : BC) (T : BC) (Yo : Option BC) (L : List Nat) (kd : Nat → Nat) (nu : Nat → Int32) (aa : Nat → Int32) (LR : List Nat) (so : Nat → Nat) (rn : Nat → Nat) (ri : Nat → Nat → Int32) (rl : Nat → Nat → Int64) (M : BC) (Ko : Option BC) (To : Option BC) (x1 : Int32) (post : lwPT) : Prop :=
 q_b3 (f_X0_share fu X N T L kd nu aa x1) fun (r1 : Int32) (X2 : BC) (N3 : BC) =>
 q_b2 (f_X3_share fu M x1) fun (r6 : Int32) (M7 : BC) =>
 q_ck (decide (r1 = r6)) (post X2 N3 T Yo L kd nu aa LR so rn ri rl M7 Ko To)
set_option maxHeartbeats 4000000 in
set_option maxRecDepth 100000 in
theorem lc_34 {p : Program} {l : Launch} {e : Env} {s : State} {m : MethodId} {below : List Frame} {meth : Method} {c : Code} {H : Heap} {locs : List Loc} {cells slots b len n : Nat} {Q : State → Prop} {xs : Nat → Int32} {adX adT adM adN : Nat → Nat} {tY tK tQ : Option ((Nat → Nat) × BC)} {ls : Array Slot} {D : va_G} {g : Nat → ClassId} {A : Nat → Prop} {X N T : BC} {L : List Nat} {kd : Nat → Nat} {nu aa : Nat → Int32} {LR : List Nat} {so rn : Nat → Nat} {ri : Nat → Nat → Int32} {rl : Nat → Nat → Int64} {M : BC} {fu : Nat} {post : lwPT} (C : lwC p l s m b c A ls adX adM len n xs) (hcs : cells + 10000 ≤ 1200384 ∧ slots + 80000 ≤ 5497258) (hW : bW D g A s H locs (lwB g adX adN adT tY adM tK tQ X N T L kd nu aa LR so rn ri rl M)) (hf : lf_34 fu X N T (tY.map Prod.snd) L kd nu aa LR so rn ri rl M (tK.map Prod.snd) (tQ.map Prod.snd) (xs (n + 1)) post) (kk : lwK p l e s m b below meth c D g A adX adT adM ls Q cells slots post) : W p l e room_1 s m #[.ref b] below meth c H locs cells slots Q (F0 m 1279 ls []) := by
  have C0 := C
  obtain ⟨hx, hb, hml, hown, hts, hst, -, -, -, -, -, hl⟩ := C0
  rw [lf_34] at hf
  have hW : bW D g A s H locs [xW g adX (adN 0) (adT 0) (o_a tY) X, vW g adN N, vW g adT T, oV g tY, gW L kd nu aa, pW g LR so rn ri rl, mW g adM (o_a tK) (o_a tQ) M, oM g tK, oM g tQ] := hW
  refine lv_aload_n hx hb dL_law_1279 rfl (lv_at hl 1 rfl) ?_
  refine lw_arg C hW 1 (K := 1) rfl (by decide) dL_law_1280 dL_law_1281 dL_law_1282 dL_law_1283 dL_law_1284 ?_
  obtain ⟨r1, X2, N3, hc4, hf⟩ := q_b3s hf
  have hp5 : List.Perm (α := va_W) [xW g adX (adN 0) (adT 0) (o_a tY) X, vW g adN N, vW g adT T, oV g tY, gW L kd nu aa, pW g LR so rn ri rl, mW g adM (o_a tK) (o_a tQ) M, oM g tK, oM g tQ] ([xW g adX (adN 0) (adT 0) (o_a tY) X, vW g adN N, vW g adT T, gW L kd nu aa] ++ [oV g tY, pW g LR so rn ri rl, mW g adM (o_a tK) (o_a tQ) M, oM g tK, oM g tQ]) := b_perm [0, 1, 2, 4] [3, 5, 6, 7, 8] 9 rfl rfl rfl rfl
  refine b_call0 ⟨rfl, rfl⟩ (va_runV (As := [.int (xs (n + 1))]) (rest := []) ⟨hx, hb, hml, hown, hts⟩ (m_X0_share l D g H.size adX (o_a tY) adN adT fu X N T L kd nu aa (xs (n + 1)) r1 X2 N3 hc4) (cwV 1 hts (lw_V q1240 q1241 q1242 q76 q1243) rfl rfl rfl (by decide +kernel) ⟨Nat.le_of_ble_eq_true rfl, Nat.le_of_ble_eq_true rfl⟩) (b_preV (pp := 0) (q := 0) hW hp5 rfl xW_0 rfl) rfl rfl hl.1 rfl (lv_room (Nat.le_of_ble_eq_true rfl)) dL_law_1285 ⟨(show cells + 0 ≤ 1200384 from by (omega)), (show slots + 0 ≤ 5497258 from by (omega))⟩) hW hp5 (fun _ _ H locs hW => ?_)
  have hW : bW D g A s H locs [xW g adX (adN 0) (adT 0) (o_a tY) X2, vW g adN N3, vW g adT T, gW L kd nu aa, oV g tY, pW g LR so rn ri rl, mW g adM (o_a tK) (o_a tQ) M, oM g tK, oM g tQ] := hW
  refine lv_aload_n hx hb dL_law_1288 rfl (lv_at hl 2 rfl) ?_
  refine lw_arg C hW 1 (K := 1) rfl (by decide) dL_law_1289 dL_law_1290 dL_law_1291 dL_law_1292 dL_law_1293 ?_
  obtain ⟨r6, M7, hc8, hf⟩ := q_b2s hf
  have hp9 : List.Perm (α := va_W) [xW g adX (adN 0) (adT 0) (o_a tY) X2, vW g adN N3, vW g adT T, gW L kd nu aa, oV g tY, pW g LR so rn ri rl, mW g adM (o_a tK) (o_a tQ) M, oM g tK, oM g tQ] ([mW g adM (o_a tK) (o_a tQ) M] ++ [xW g adX (adN 0) (adT 0) (o_a tY) X2, vW g adN N3, vW g adT T, gW L kd nu aa, oV g tY, pW g LR so rn ri rl, oM g tK, oM g tQ]) := b_perm [6] [0, 1, 2, 3, 4, 5, 7, 8] 9 rfl rfl rfl rfl
  refine b_call0 ⟨rfl, rfl⟩ (va_runV (As := [.int (xs (n + 1))]) (rest := [.int r1]) ⟨hx, hb, hml, hown, hts⟩ (m_X3_share l D g H.size adM (o_a tK) (o_a tQ) fu M (xs (n + 1)) r6 M7 hc8) (cwV 1 hts (lw_V q1894 q1895 q1896 q79 q1897) rfl rfl rfl (by decide +kernel) ⟨Nat.le_of_ble_eq_true rfl, Nat.le_of_ble_eq_true rfl⟩) (b_preV (pp := 6) (q := 0) hW hp9 rfl mW_0 rfl) rfl rfl hl.1 rfl (lv_room (Nat.le_of_ble_eq_true rfl)) dL_law_1294 ⟨(show cells + 0 ≤ 1200384 from by (omega)), (show slots + 0 ≤ 5497258 from by (omega))⟩) hW hp9 (fun _ _ H locs hW => ?_)
  have hW : bW D g A s H locs [mW g adM (o_a tK) (o_a tQ) M7, xW g adX (adN 0) (adT 0) (o_a tY) X2, vW g adN N3, vW g adT T, gW L kd nu aa, oV g tY, pW g LR so rn ri rl, oM g tK, oM g tQ] := hW
  obtain ⟨he10, hf⟩ := q_cs hf; have he10 := of_decide_eq_true he10
  refine lv_icmp_eq (tgt := 1948) hx hb dL_law_1297 (by decide) (fun _ => ?_) (fun hne => absurd he10 hne)
  exact kk adN tY tK tQ X2 N3 T L kd nu aa LR so rn ri rl M7 _ _ _ _ hf (b_perms (Bs' := [xW g adX (adN 0) (adT 0) (o_a tY) X2, vW g adN N3, vW g adT T, oV g tY, gW L kd nu aa, pW g LR so rn ri rl, mW g adM (o_a tK) (o_a tQ) M7, oM g tK, oM g tQ]) hW (b_ord [1, 2, 3, 5, 4, 6, 0, 7, 8] 9 rfl rfl rfl)) (by (omega)) (by (omega))
def lf_35 (X : BC) (N : BC) (T : BC) (Yo : Option BC) (L : List Nat) (kd : Nat → Nat) (nu : Nat → Int32) (aa : Nat → Int32) (LR : List Nat) (so : Nat → Nat) (rn : Nat → Nat) (ri : Nat → Nat → Int32) (rl : Nat → Nat → Int64) (M : BC) (Ko : Option BC) (To : Option BC) (x1 : Int32) (x2 : Int32) (x3 : Int32) (post : lwPT) : Prop :=
 q_b2 (f_X0_nine X N x1 x2 x3) fun (r1 : Int32) (X2 : BC) =>
 q_b2 (f_X3_nine M x1 x2 x3) fun (r5 : Int32) (M6 : BC) =>
 q_ck (decide (r1 = r5)) (post X2 N T Yo L kd nu aa LR so rn ri rl M6 Ko To)
set_option maxHeartbeats 4000000 in
set_option maxRecDepth 100000 in
theorem lc_35 {p : Program} {l : Launch} {e : Env} {s : State} {m : MethodId} {below : List Frame} {meth : Method} {c : Code} {H : Heap} {locs : List Loc} {cells slots b len n : Nat} {Q : State → Prop} {xs : Nat → Int32} {adX adT adM adN : Nat → Nat} {tY tK tQ : Option ((Nat → Nat) × BC)} {ls : Array Slot} {D : va_G} {g : Nat → ClassId} {A : Nat → Prop} {X N T : BC} {L : List Nat} {kd : Nat → Nat} {nu aa : Nat → Int32} {LR : List Nat} {so rn : Nat → Nat} {ri : Nat → Nat → Int32} {rl : Nat → Nat → Int64} {M : BC} {fu : Nat} {post : lwPT} (C : lwC p l s m b c A ls adX adM len n xs) (hcs : cells + 10000 ≤ 1200384 ∧ slots + 80000 ≤ 5497258) (hW : bW D g A s H locs (lwB g adX adN adT tY adM tK tQ X N T L kd nu aa LR so rn ri rl M)) (hf : lf_35 X N T (tY.map Prod.snd) L kd nu aa LR so rn ri rl M (tK.map Prod.snd) (tQ.map Prod.snd) (xs (n + 1)) (xs (n + 2)) (xs (n + 3)) post) (kk : lwK p l e s m b below meth c D g A adX adT adM ls Q cells slots post) : W p l e room_1 s m #[.ref b] below meth c H locs cells slots Q (F0 m 1302 ls []) := by
  have C0 := C
  obtain ⟨hx, hb, hml, hown, hts, hst, -, -, -, -, -, hl⟩ := C0
  rw [lf_35] at hf
  have hW : bW D g A s H locs [xW g adX (adN 0) (adT 0) (o_a tY) X, vW g adN N, vW g adT T, oV g tY, gW L kd nu aa, pW g LR so rn ri rl, mW g adM (o_a tK) (o_a tQ) M, oM g tK, oM g tQ] := hW
  refine lv_aload_n hx hb dL_law_1302 rfl (lv_at hl 1 rfl) ?_
  refine lw_arg C hW 1 (K := 1) rfl (by decide) dL_law_1303 dL_law_1304 dL_law_1305 dL_law_1306 dL_law_1307 ?_
  refine lw_arg C hW 2 (K := 2) rfl (by decide) dL_law_1308 dL_law_1309 dL_law_1310 dL_law_1311 dL_law_1312 ?_
  refine lw_arg C hW 3 (K := 3) rfl (by decide) dL_law_1313 dL_law_1314 dL_law_1315 dL_law_1316 dL_law_1317 ?_
  obtain ⟨r1, X2, hc3, hf⟩ := q_b2s hf
  have hp4 : List.Perm (α := va_W) [xW g adX (adN 0) (adT 0) (o_a tY) X, vW g adN N, vW g adT T, oV g tY, gW L kd nu aa, pW g LR so rn ri rl, mW g adM (o_a tK) (o_a tQ) M, oM g tK, oM g tQ] ([xW g adX (adN 0) (adT 0) (o_a tY) X, vW g adN N] ++ [vW g adT T, oV g tY, gW L kd nu aa, pW g LR so rn ri rl, mW g adM (o_a tK) (o_a tQ) M, oM g tK, oM g tQ]) := b_perm [0, 1] [2, 3, 4, 5, 6, 7, 8] 9 rfl rfl rfl rfl
  refine b_call0 ⟨rfl, rfl⟩ (va_runV (As := [.int (xs (n + 1)), .int (xs (n + 2)), .int (xs (n + 3))]) (rest := []) ⟨hx, hb, hml, hown, hts⟩ (m_X0_nine l D g H.size adX (o_a tY) adN adT X N (xs (n + 1)) (xs (n + 2)) (xs (n + 3)) r1 X2 hc3) (cwV 3 hts (lw_V q1245 q1246 q1247 q76 q1248) rfl rfl rfl (by decide +kernel) ⟨Nat.le_of_ble_eq_true rfl, Nat.le_of_ble_eq_true rfl⟩) (b_preV (pp := 0) (q := 0) hW hp4 rfl xW_0 rfl) rfl rfl hl.1 rfl (lv_room (Nat.le_of_ble_eq_true rfl)) dL_law_1318 ⟨(show cells + 0 ≤ 1200384 from by (omega)), (show slots + 0 ≤ 5497258 from by (omega))⟩) hW hp4 (fun _ _ H locs hW => ?_)
  have hW : bW D g A s H locs [xW g adX (adN 0) (adT 0) (o_a tY) X2, vW g adN N, vW g adT T, oV g tY, gW L kd nu aa, pW g LR so rn ri rl, mW g adM (o_a tK) (o_a tQ) M, oM g tK, oM g tQ] := hW
  refine lv_aload_n hx hb dL_law_1321 rfl (lv_at hl 2 rfl) ?_
  refine lw_arg C hW 1 (K := 1) rfl (by decide) dL_law_1322 dL_law_1323 dL_law_1324 dL_law_1325 dL_law_1326 ?_
  refine lw_arg C hW 2 (K := 2) rfl (by decide) dL_law_1327 dL_law_1328 dL_law_1329 dL_law_1330 dL_law_1331 ?_
  refine lw_arg C hW 3 (K := 3) rfl (by decide) dL_law_1332 dL_law_1333 dL_law_1334 dL_law_1335 dL_law_1336 ?_
  obtain ⟨r5, M6, hc7, hf⟩ := q_b2s hf
  have hp8 : List.Perm (α := va_W) [xW g adX (adN 0) (adT 0) (o_a tY) X2, vW g adN N, vW g adT T, oV g tY, gW L kd nu aa, pW g LR so rn ri rl, mW g adM (o_a tK) (o_a tQ) M, oM g tK, oM g tQ] ([mW g adM (o_a tK) (o_a tQ) M] ++ [xW g adX (adN 0) (adT 0) (o_a tY) X2, vW g adN N, vW g adT T, oV g tY, gW L kd nu aa, pW g LR so rn ri rl, oM g tK, oM g tQ]) := b_perm [6] [0, 1, 2, 3, 4, 5, 7, 8] 9 rfl rfl rfl rfl
  refine b_call0 ⟨rfl, rfl⟩ (va_runV (As := [.int (xs (n + 1)), .int (xs (n + 2)), .int (xs (n + 3))]) (rest := [.int r1]) ⟨hx, hb, hml, hown, hts⟩ (m_X3_nine l D g H.size adM (o_a tK) (o_a tQ) M (xs (n + 1)) (xs (n + 2)) (xs (n + 3)) r5 M6 hc7) (cwV 3 hts (lw_V q1898 q1899 q1900 q79 q1901) rfl rfl rfl (by decide +kernel) ⟨Nat.le_of_ble_eq_true rfl, Nat.le_of_ble_eq_true rfl⟩) (b_preV (pp := 6) (q := 0) hW hp8 rfl mW_0 rfl) rfl rfl hl.1 rfl (lv_room (Nat.le_of_ble_eq_true rfl)) dL_law_1337 ⟨(show cells + 0 ≤ 1200384 from by (omega)), (show slots + 0 ≤ 5497258 from by (omega))⟩) hW hp8 (fun _ _ H locs hW => ?_)
  have hW : bW D g A s H locs [mW g adM (o_a tK) (o_a tQ) M6, xW g adX (adN 0) (adT 0) (o_a tY) X2, vW g adN N, vW g adT T, oV g tY, gW L kd nu aa, pW g LR so rn ri rl, oM g tK, oM g tQ] := hW
  obtain ⟨he9, hf⟩ := q_cs hf; have he9 := of_decide_eq_true he9
  refine lv_icmp_eq (tgt := 1948) hx hb dL_law_1340 (by decide) (fun _ => ?_) (fun hne => absurd he9 hne)
  exact kk adN tY tK tQ X2 N T L kd nu aa LR so rn ri rl M6 _ _ _ _ hf (b_perms (Bs' := [xW g adX (adN 0) (adT 0) (o_a tY) X2, vW g adN N, vW g adT T, oV g tY, gW L kd nu aa, pW g LR so rn ri rl, mW g adM (o_a tK) (o_a tQ) M6, oM g tK, oM g tQ]) hW (b_ord [1, 2, 3, 4, 5, 6, 0, 7, 8] 9 rfl rfl rfl)) (by (omega)) (by (omega))
def lf_36 (fu : Nat) (X : BC) (N : BC) (T : BC) (Yo : Option BC) (L : List Nat) (kd : Nat → Nat) (nu : Nat → Int32) (aa : Nat → Int32) (LR : List Nat) (so : Nat → Nat) (rn : Nat → Nat) (ri : Nat → Nat → Int32) (rl : Nat → Nat → Int64) (M : BC) (Ko : Option BC) (To : Option BC) (x1 : Int32) (x2 : Int32) (post : lwPT) : Prop :=
 q_b3 (f_X0_two fu X N T L kd nu aa x1 x2) fun (r1 : Int32) (X2 : BC) (T3 : BC) =>
 q_b3 (f_X3_two fu M To x1 x2) fun (r6 : Int32) (M7 : BC) (TO8 : Option BC) =>
 q_ck (decide (r1 = r6)) (post X2 N T3 Yo L kd nu aa LR so rn ri rl M7 Ko TO8)
set_option maxHeartbeats 4000000 in
set_option maxRecDepth 100000 in
theorem lc_36 {p : Program} {l : Launch} {e : Env} {s : State} {m : MethodId} {below : List Frame} {meth : Method} {c : Code} {H : Heap} {locs : List Loc} {cells slots b len n : Nat} {Q : State → Prop} {xs : Nat → Int32} {adX adT adM adN : Nat → Nat} {tY tK tQ : Option ((Nat → Nat) × BC)} {ls : Array Slot} {D : va_G} {g : Nat → ClassId} {A : Nat → Prop} {X N T : BC} {L : List Nat} {kd : Nat → Nat} {nu aa : Nat → Int32} {LR : List Nat} {so rn : Nat → Nat} {ri : Nat → Nat → Int32} {rl : Nat → Nat → Int64} {M : BC} {fu : Nat} {post : lwPT} (C : lwC p l s m b c A ls adX adM len n xs) (hcs : cells + 10000 ≤ 1200384 ∧ slots + 80000 ≤ 5497258) (hW : bW D g A s H locs (lwB g adX adN adT tY adM tK tQ X N T L kd nu aa LR so rn ri rl M)) (hf : lf_36 fu X N T (tY.map Prod.snd) L kd nu aa LR so rn ri rl M (tK.map Prod.snd) (tQ.map Prod.snd) (xs (n + 1)) (xs (n + 2)) post) (kk : lwK p l e s m b below meth c D g A adX adT adM ls Q cells slots post) : W p l e room_1 s m #[.ref b] below meth c H locs cells slots Q (F0 m 1345 ls []) := by
  have C0 := C
  obtain ⟨hx, hb, hml, hown, hts, hst, -, -, -, -, -, hl⟩ := C0
  rw [lf_36] at hf
  have hW : bW D g A s H locs [xW g adX (adN 0) (adT 0) (o_a tY) X, vW g adN N, vW g adT T, oV g tY, gW L kd nu aa, pW g LR so rn ri rl, mW g adM (o_a tK) (o_a tQ) M, oM g tK, oM g tQ] := hW
  refine lv_aload_n hx hb dL_law_1345 rfl (lv_at hl 1 rfl) ?_
  refine lw_arg C hW 1 (K := 1) rfl (by decide) dL_law_1346 dL_law_1347 dL_law_1348 dL_law_1349 dL_law_1350 ?_
  refine lw_arg C hW 2 (K := 2) rfl (by decide) dL_law_1351 dL_law_1352 dL_law_1353 dL_law_1354 dL_law_1355 ?_
  obtain ⟨r1, X2, T3, hc4, hf⟩ := q_b3s hf
  have hp5 : List.Perm (α := va_W) [xW g adX (adN 0) (adT 0) (o_a tY) X, vW g adN N, vW g adT T, oV g tY, gW L kd nu aa, pW g LR so rn ri rl, mW g adM (o_a tK) (o_a tQ) M, oM g tK, oM g tQ] ([xW g adX (adN 0) (adT 0) (o_a tY) X, vW g adN N, vW g adT T, gW L kd nu aa] ++ [oV g tY, pW g LR so rn ri rl, mW g adM (o_a tK) (o_a tQ) M, oM g tK, oM g tQ]) := b_perm [0, 1, 2, 4] [3, 5, 6, 7, 8] 9 rfl rfl rfl rfl
  refine b_call0 ⟨rfl, rfl⟩ (va_runV (As := [.int (xs (n + 1)), .int (xs (n + 2))]) (rest := []) ⟨hx, hb, hml, hown, hts⟩ (m_X0_two l D g H.size adX (o_a tY) adN adT fu X N T L kd nu aa (xs (n + 1)) (xs (n + 2)) r1 X2 T3 hc4) (cwV 2 hts (lw_V q1249 q1250 q1251 q76 q1252) rfl rfl rfl (by decide +kernel) ⟨Nat.le_of_ble_eq_true rfl, Nat.le_of_ble_eq_true rfl⟩) (b_preV (pp := 0) (q := 0) hW hp5 rfl xW_0 rfl) rfl rfl hl.1 rfl (lv_room (Nat.le_of_ble_eq_true rfl)) dL_law_1356 ⟨(show cells + 0 ≤ 1200384 from by (omega)), (show slots + 0 ≤ 5497258 from by (omega))⟩) hW hp5 (fun _ _ H locs hW => ?_)
  have hW : bW D g A s H locs [xW g adX (adN 0) (adT 0) (o_a tY) X2, vW g adN N, vW g adT T3, gW L kd nu aa, oV g tY, pW g LR so rn ri rl, mW g adM (o_a tK) (o_a tQ) M, oM g tK, oM g tQ] := hW
  refine lv_aload_n hx hb dL_law_1359 rfl (lv_at hl 2 rfl) ?_
  refine lw_arg C hW 1 (K := 1) rfl (by decide) dL_law_1360 dL_law_1361 dL_law_1362 dL_law_1363 dL_law_1364 ?_
  refine lw_arg C hW 2 (K := 2) rfl (by decide) dL_law_1365 dL_law_1366 dL_law_1367 dL_law_1368 dL_law_1369 ?_
  obtain ⟨r6, M7, TO8, hc9, hf⟩ := q_b3s hf
  have hp10 : List.Perm (α := va_W) [xW g adX (adN 0) (adT 0) (o_a tY) X2, vW g adN N, vW g adT T3, gW L kd nu aa, oV g tY, pW g LR so rn ri rl, mW g adM (o_a tK) (o_a tQ) M, oM g tK, oM g tQ] ([mW g adM (o_a tK) (o_a tQ) M, oM g tQ] ++ [xW g adX (adN 0) (adT 0) (o_a tY) X2, vW g adN N, vW g adT T3, gW L kd nu aa, oV g tY, pW g LR so rn ri rl, oM g tK]) := b_perm [6, 8] [0, 1, 2, 3, 4, 5, 7] 9 rfl rfl rfl rfl
  refine b_call (va_runV (As := [.int (xs (n + 1)), .int (xs (n + 2))]) (rest := [.int r1]) ⟨hx, hb, hml, hown, hts⟩ (m_X3_two l D g H.size adM (o_a tK) tQ fu M (xs (n + 1)) (xs (n + 2)) r6 M7 TO8 hc9) (cwV 2 hts (lw_V q1902 q1903 q1904 q79 q1905) rfl rfl rfl (by decide +kernel) ⟨Nat.le_of_ble_eq_true rfl, Nat.le_of_ble_eq_true rfl⟩) (b_preV (pp := 6) (q := 0) hW hp10 rfl mW_0 rfl) rfl rfl hl.1 rfl (lv_room (Nat.le_of_ble_eq_true rfl)) dL_law_1370 ⟨(show cells + (o_k 45 tQ) ≤ 1200384 from by (have := lw_k 45 tQ; have := lw_k 842 tQ; omega)), (show slots + (o_k 842 tQ) ≤ 5497258 from by (have := lw_k 45 tQ; have := lw_k 842 tQ; omega))⟩) hW hp10 (fun tq11 htq12 H locs hW => ?_)
  subst htq12
  refine W.cs (cells' := (cells + (o_k 45 tQ))) (slots' := (slots + (o_k 842 tQ))) rfl rfl ?_
  have hW : bW D g A s H locs [mW g adM (o_a tK) (o_a tq11) M7, oM g tq11, xW g adX (adN 0) (adT 0) (o_a tY) X2, vW g adN N, vW g adT T3, gW L kd nu aa, oV g tY, pW g LR so rn ri rl, oM g tK] := hW
  obtain ⟨he13, hf⟩ := q_cs hf; have he13 := of_decide_eq_true he13
  refine lv_icmp_eq (tgt := 1948) hx hb dL_law_1373 (by decide) (fun _ => ?_) (fun hne => absurd he13 hne)
  exact kk adN tY tK tq11 X2 N T3 L kd nu aa LR so rn ri rl M7 _ _ _ _ hf (b_perms (Bs' := [xW g adX (adN 0) (adT 0) (o_a tY) X2, vW g adN N, vW g adT T3, oV g tY, gW L kd nu aa, pW g LR so rn ri rl, mW g adM (o_a tK) (o_a tq11) M7, oM g tK, oM g tq11]) hW (b_ord [2, 3, 4, 6, 5, 7, 0, 8, 1] 9 rfl rfl rfl)) (by (have := lw_k 45 tQ; have := lw_k 842 tQ; omega)) (by (have := lw_k 45 tQ; have := lw_k 842 tQ; omega))
def lf_37 (fu : Nat) (X : BC) (N : BC) (T : BC) (Yo : Option BC) (L : List Nat) (kd : Nat → Nat) (nu : Nat → Int32) (aa : Nat → Int32) (LR : List Nat) (so : Nat → Nat) (rn : Nat → Nat) (ri : Nat → Nat → Int32) (rl : Nat → Nat → Int64) (M : BC) (Ko : Option BC) (To : Option BC) (x1 : Int32) (post : lwPT) : Prop :=
 f_X0_judge fu X N L kd nu aa LR so rn ri rl x1 (fun (r1 : Int32) (X2 : BC) (N3 : BC) =>
 q_b2 (f_X3_judge fu M x1) fun (r6 : Int32) (M7 : BC) =>
 q_ck (decide (r1 = r6)) (post X2 N3 T Yo L kd nu aa LR so rn ri rl M7 Ko To))
set_option maxHeartbeats 4000000 in
set_option maxRecDepth 100000 in
theorem lc_37 {p : Program} {l : Launch} {e : Env} {s : State} {m : MethodId} {below : List Frame} {meth : Method} {c : Code} {H : Heap} {locs : List Loc} {cells slots b len n : Nat} {Q : State → Prop} {xs : Nat → Int32} {adX adT adM adN : Nat → Nat} {tY tK tQ : Option ((Nat → Nat) × BC)} {ls : Array Slot} {D : va_G} {g : Nat → ClassId} {A : Nat → Prop} {X N T : BC} {L : List Nat} {kd : Nat → Nat} {nu aa : Nat → Int32} {LR : List Nat} {so rn : Nat → Nat} {ri : Nat → Nat → Int32} {rl : Nat → Nat → Int64} {M : BC} {fu : Nat} {post : lwPT} (C : lwC p l s m b c A ls adX adM len n xs) (hfu : fu ≤ 300) (hcs : cells + 10000 ≤ 1200384 ∧ slots + 80000 ≤ 5497258) (hW : bW D g A s H locs (lwB g adX adN adT tY adM tK tQ X N T L kd nu aa LR so rn ri rl M)) (hf : lf_37 fu X N T (tY.map Prod.snd) L kd nu aa LR so rn ri rl M (tK.map Prod.snd) (tQ.map Prod.snd) (xs (n + 1)) post) (kk : lwK p l e s m b below meth c D g A adX adT adM ls Q cells slots post) : W p l e room_1 s m #[.ref b] below meth c H locs cells slots Q (F0 m 1378 ls []) := by
  have C0 := C
  obtain ⟨hx, hb, hml, hown, hts, hst, -, -, -, -, -, hl⟩ := C0
  rw [lf_37] at hf
  have hW : bW D g A s H locs [xW g adX (adN 0) (adT 0) (o_a tY) X, vW g adN N, vW g adT T, oV g tY, gW L kd nu aa, pW g LR so rn ri rl, mW g adM (o_a tK) (o_a tQ) M, oM g tK, oM g tQ] := hW
  refine lv_aload_n hx hb dL_law_1378 rfl (lv_at hl 1 rfl) ?_
  refine lw_arg C hW 1 (K := 1) rfl (by decide) dL_law_1379 dL_law_1380 dL_law_1381 dL_law_1382 dL_law_1383 ?_
  have hp4 : List.Perm (α := va_W) [xW g adX (adN 0) (adT 0) (o_a tY) X, vW g adN N, vW g adT T, oV g tY, gW L kd nu aa, pW g LR so rn ri rl, mW g adM (o_a tK) (o_a tQ) M, oM g tK, oM g tQ] ([xW g adX (adN 0) (adT 0) (o_a tY) X, vW g adN N, gW L kd nu aa, pW g LR so rn ri rl] ++ [vW g adT T, oV g tY, mW g adM (o_a tK) (o_a tQ) M, oM g tK, oM g tQ]) := b_perm [0, 1, 4, 5] [2, 3, 6, 7, 8] 9 rfl rfl rfl rfl
  refine b_callX (vx_runVX (As := [.int (xs (n + 1))]) (rest := []) ⟨hx, hb, hml, hown, hts⟩ (m_X0_judge l hst D g H.size adX (o_a tY) adN adT fu X N L kd nu aa LR so rn ri rl (xs (n + 1)) _ hf) (vx_cwVW 1 hts (lw_VW q1259 q1260 q1261 q76 q1262) rfl rfl rfl (by decide +kernel) ⟨Nat.le_of_ble_eq_true rfl, Nat.le_of_ble_eq_true rfl⟩) (b_preV (pp := 0) (q := 0) hW hp4 rfl xW_0 rfl) rfl rfl hl.1 rfl (lv_room (Nat.le_of_ble_eq_true rfl)) dL_law_1384 ⟨(show cells + (1 + fu * 3) ≤ 1200384 from by (omega)), (show slots + (7 + fu * 222) ≤ 5497258 from by (omega))⟩) hW hp4 (fun E q ce u hok H locs hW hcell hcv hcl => hok.elim) (fun u5 hf H locs hW => ?_)
  refine W.cs (cells' := (cells + (1 + fu * 3))) (slots' := (slots + (7 + fu * 222))) rfl rfl ?_
  try dsimp only at hf hW
  obtain ⟨r1, X2, N3⟩ := u5; try dsimp only at hf hW ⊢
  have hW : bW D g A s H locs [xW g adX (adN 0) (adT 0) (o_a tY) X2, vW g adN N3, gW L kd nu aa, pW g LR so rn ri rl, vW g adT T, oV g tY, mW g adM (o_a tK) (o_a tQ) M, oM g tK, oM g tQ] := hW
  refine lv_aload_n hx hb dL_law_1387 rfl (lv_at hl 2 rfl) ?_
  refine lw_arg C hW 1 (K := 1) rfl (by decide) dL_law_1388 dL_law_1389 dL_law_1390 dL_law_1391 dL_law_1392 ?_
  obtain ⟨r6, M7, hc8, hf⟩ := q_b2s hf
  have hp9 : List.Perm (α := va_W) [xW g adX (adN 0) (adT 0) (o_a tY) X2, vW g adN N3, gW L kd nu aa, pW g LR so rn ri rl, vW g adT T, oV g tY, mW g adM (o_a tK) (o_a tQ) M, oM g tK, oM g tQ] ([mW g adM (o_a tK) (o_a tQ) M] ++ [xW g adX (adN 0) (adT 0) (o_a tY) X2, vW g adN N3, gW L kd nu aa, pW g LR so rn ri rl, vW g adT T, oV g tY, oM g tK, oM g tQ]) := b_perm [6] [0, 1, 2, 3, 4, 5, 7, 8] 9 rfl rfl rfl rfl
  refine b_call0 ⟨rfl, rfl⟩ (va_runV (As := [.int (xs (n + 1))]) (rest := [.int r1]) ⟨hx, hb, hml, hown, hts⟩ (m_X3_judge l D g H.size adM (o_a tK) (o_a tQ) fu M (xs (n + 1)) r6 M7 hc8) (cwV 1 hts (lw_V q1910 q1911 q1912 q79 q1913) rfl rfl rfl (by decide +kernel) ⟨Nat.le_of_ble_eq_true rfl, Nat.le_of_ble_eq_true rfl⟩) (b_preV (pp := 6) (q := 0) hW hp9 rfl mW_0 rfl) rfl rfl hl.1 rfl (lv_room (Nat.le_of_ble_eq_true rfl)) dL_law_1393 ⟨(show (cells + (1 + fu * 3)) + 0 ≤ 1200384 from by (omega)), (show (slots + (7 + fu * 222)) + 0 ≤ 5497258 from by (omega))⟩) hW hp9 (fun _ _ H locs hW => ?_)
  have hW : bW D g A s H locs [mW g adM (o_a tK) (o_a tQ) M7, xW g adX (adN 0) (adT 0) (o_a tY) X2, vW g adN N3, gW L kd nu aa, pW g LR so rn ri rl, vW g adT T, oV g tY, oM g tK, oM g tQ] := hW
  obtain ⟨he10, hf⟩ := q_cs hf; have he10 := of_decide_eq_true he10
  refine lv_icmp_eq (tgt := 1948) hx hb dL_law_1396 (by decide) (fun _ => ?_) (fun hne => absurd he10 hne)
  exact kk adN tY tK tQ X2 N3 T L kd nu aa LR so rn ri rl M7 _ _ _ _ hf (b_perms (Bs' := [xW g adX (adN 0) (adT 0) (o_a tY) X2, vW g adN N3, vW g adT T, oV g tY, gW L kd nu aa, pW g LR so rn ri rl, mW g adM (o_a tK) (o_a tQ) M7, oM g tK, oM g tQ]) hW (b_ord [1, 2, 5, 6, 3, 4, 0, 7, 8] 9 rfl rfl rfl)) (by (omega)) (by (omega))
def lf_38 (fu : Nat) (X : BC) (N : BC) (T : BC) (Yo : Option BC) (L : List Nat) (kd : Nat → Nat) (nu : Nat → Int32) (aa : Nat → Int32) (LR : List Nat) (so : Nat → Nat) (rn : Nat → Nat) (ri : Nat → Nat → Int32) (rl : Nat → Nat → Int64) (M : BC) (Ko : Option BC) (To : Option BC) (x1 : Int32) (x2 : Int32) (post : lwPT) : Prop :=
 q_b3 (f_X0_years fu X N T L kd nu aa x1 x2) fun (r1 : Int32) (X2 : BC) (T3 : BC) =>
 q_b3 (f_X3_years fu M To x1 x2) fun (r6 : Int32) (M7 : BC) (TO8 : Option BC) =>
 q_ck (decide (r1 = r6)) (post X2 N T3 Yo L kd nu aa LR so rn ri rl M7 Ko TO8)
set_option maxHeartbeats 4000000 in
set_option maxRecDepth 100000 in
theorem lc_38 {p : Program} {l : Launch} {e : Env} {s : State} {m : MethodId} {below : List Frame} {meth : Method} {c : Code} {H : Heap} {locs : List Loc} {cells slots b len n : Nat} {Q : State → Prop} {xs : Nat → Int32} {adX adT adM adN : Nat → Nat} {tY tK tQ : Option ((Nat → Nat) × BC)} {ls : Array Slot} {D : va_G} {g : Nat → ClassId} {A : Nat → Prop} {X N T : BC} {L : List Nat} {kd : Nat → Nat} {nu aa : Nat → Int32} {LR : List Nat} {so rn : Nat → Nat} {ri : Nat → Nat → Int32} {rl : Nat → Nat → Int64} {M : BC} {fu : Nat} {post : lwPT} (C : lwC p l s m b c A ls adX adM len n xs) (hcs : cells + 10000 ≤ 1200384 ∧ slots + 80000 ≤ 5497258) (hW : bW D g A s H locs (lwB g adX adN adT tY adM tK tQ X N T L kd nu aa LR so rn ri rl M)) (hf : lf_38 fu X N T (tY.map Prod.snd) L kd nu aa LR so rn ri rl M (tK.map Prod.snd) (tQ.map Prod.snd) (xs (n + 1)) (xs (n + 2)) post) (kk : lwK p l e s m b below meth c D g A adX adT adM ls Q cells slots post) : W p l e room_1 s m #[.ref b] below meth c H locs cells slots Q (F0 m 1401 ls []) := by
  have C0 := C
  obtain ⟨hx, hb, hml, hown, hts, hst, -, -, -, -, -, hl⟩ := C0
  rw [lf_38] at hf
  have hW : bW D g A s H locs [xW g adX (adN 0) (adT 0) (o_a tY) X, vW g adN N, vW g adT T, oV g tY, gW L kd nu aa, pW g LR so rn ri rl, mW g adM (o_a tK) (o_a tQ) M, oM g tK, oM g tQ] := hW
  refine lv_aload_n hx hb dL_law_1401 rfl (lv_at hl 1 rfl) ?_
  refine lw_arg C hW 1 (K := 1) rfl (by decide) dL_law_1402 dL_law_1403 dL_law_1404 dL_law_1405 dL_law_1406 ?_
  refine lw_arg C hW 2 (K := 2) rfl (by decide) dL_law_1407 dL_law_1408 dL_law_1409 dL_law_1410 dL_law_1411 ?_
  obtain ⟨r1, X2, T3, hc4, hf⟩ := q_b3s hf
  have hp5 : List.Perm (α := va_W) [xW g adX (adN 0) (adT 0) (o_a tY) X, vW g adN N, vW g adT T, oV g tY, gW L kd nu aa, pW g LR so rn ri rl, mW g adM (o_a tK) (o_a tQ) M, oM g tK, oM g tQ] ([xW g adX (adN 0) (adT 0) (o_a tY) X, vW g adN N, vW g adT T, gW L kd nu aa] ++ [oV g tY, pW g LR so rn ri rl, mW g adM (o_a tK) (o_a tQ) M, oM g tK, oM g tQ]) := b_perm [0, 1, 2, 4] [3, 5, 6, 7, 8] 9 rfl rfl rfl rfl
  refine b_call0 ⟨rfl, rfl⟩ (va_runV (As := [.int (xs (n + 1)), .int (xs (n + 2))]) (rest := []) ⟨hx, hb, hml, hown, hts⟩ (m_X0_years l D g H.size adX (o_a tY) adN adT fu X N T L kd nu aa (xs (n + 1)) (xs (n + 2)) r1 X2 T3 hc4) (cwV 2 hts (lw_V q1267 q1268 q1269 q76 q1270) rfl rfl rfl (by decide +kernel) ⟨Nat.le_of_ble_eq_true rfl, Nat.le_of_ble_eq_true rfl⟩) (b_preV (pp := 0) (q := 0) hW hp5 rfl xW_0 rfl) rfl rfl hl.1 rfl (lv_room (Nat.le_of_ble_eq_true rfl)) dL_law_1412 ⟨(show cells + 0 ≤ 1200384 from by (omega)), (show slots + 0 ≤ 5497258 from by (omega))⟩) hW hp5 (fun _ _ H locs hW => ?_)
  have hW : bW D g A s H locs [xW g adX (adN 0) (adT 0) (o_a tY) X2, vW g adN N, vW g adT T3, gW L kd nu aa, oV g tY, pW g LR so rn ri rl, mW g adM (o_a tK) (o_a tQ) M, oM g tK, oM g tQ] := hW
  refine lv_aload_n hx hb dL_law_1415 rfl (lv_at hl 2 rfl) ?_
  refine lw_arg C hW 1 (K := 1) rfl (by decide) dL_law_1416 dL_law_1417 dL_law_1418 dL_law_1419 dL_law_1420 ?_
  refine lw_arg C hW 2 (K := 2) rfl (by decide) dL_law_1421 dL_law_1422 dL_law_1423 dL_law_1424 dL_law_1425 ?_
  obtain ⟨r6, M7, TO8, hc9, hf⟩ := q_b3s hf
  have hp10 : List.Perm (α := va_W) [xW g adX (adN 0) (adT 0) (o_a tY) X2, vW g adN N, vW g adT T3, gW L kd nu aa, oV g tY, pW g LR so rn ri rl, mW g adM (o_a tK) (o_a tQ) M, oM g tK, oM g tQ] ([mW g adM (o_a tK) (o_a tQ) M, oM g tQ] ++ [xW g adX (adN 0) (adT 0) (o_a tY) X2, vW g adN N, vW g adT T3, gW L kd nu aa, oV g tY, pW g LR so rn ri rl, oM g tK]) := b_perm [6, 8] [0, 1, 2, 3, 4, 5, 7] 9 rfl rfl rfl rfl
  refine b_call (va_runV (As := [.int (xs (n + 1)), .int (xs (n + 2))]) (rest := [.int r1]) ⟨hx, hb, hml, hown, hts⟩ (m_X3_years l D g H.size adM (o_a tK) tQ fu M (xs (n + 1)) (xs (n + 2)) r6 M7 TO8 hc9) (cwV 2 hts (lw_V q1914 q1915 q1916 q79 q1917) rfl rfl rfl (by decide +kernel) ⟨Nat.le_of_ble_eq_true rfl, Nat.le_of_ble_eq_true rfl⟩) (b_preV (pp := 6) (q := 0) hW hp10 rfl mW_0 rfl) rfl rfl hl.1 rfl (lv_room (Nat.le_of_ble_eq_true rfl)) dL_law_1426 ⟨(show cells + (o_k 45 tQ) ≤ 1200384 from by (have := lw_k 45 tQ; have := lw_k 842 tQ; omega)), (show slots + (o_k 842 tQ) ≤ 5497258 from by (have := lw_k 45 tQ; have := lw_k 842 tQ; omega))⟩) hW hp10 (fun tq11 htq12 H locs hW => ?_)
  subst htq12
  refine W.cs (cells' := (cells + (o_k 45 tQ))) (slots' := (slots + (o_k 842 tQ))) rfl rfl ?_
  have hW : bW D g A s H locs [mW g adM (o_a tK) (o_a tq11) M7, oM g tq11, xW g adX (adN 0) (adT 0) (o_a tY) X2, vW g adN N, vW g adT T3, gW L kd nu aa, oV g tY, pW g LR so rn ri rl, oM g tK] := hW
  obtain ⟨he13, hf⟩ := q_cs hf; have he13 := of_decide_eq_true he13
  refine lv_icmp_eq (tgt := 1948) hx hb dL_law_1429 (by decide) (fun _ => ?_) (fun hne => absurd he13 hne)
  exact kk adN tY tK tq11 X2 N T3 L kd nu aa LR so rn ri rl M7 _ _ _ _ hf (b_perms (Bs' := [xW g adX (adN 0) (adT 0) (o_a tY) X2, vW g adN N, vW g adT T3, oV g tY, gW L kd nu aa, pW g LR so rn ri rl, mW g adM (o_a tK) (o_a tq11) M7, oM g tK, oM g tq11]) hW (b_ord [2, 3, 4, 6, 5, 7, 0, 8, 1] 9 rfl rfl rfl)) (by (have := lw_k 45 tQ; have := lw_k 842 tQ; omega)) (by (have := lw_k 45 tQ; have := lw_k 842 tQ; omega))
def lf_39 (fu : Nat) (X : BC) (N : BC) (T : BC) (Yo : Option BC) (L : List Nat) (kd : Nat → Nat) (nu : Nat → Int32) (aa : Nat → Int32) (LR : List Nat) (so : Nat → Nat) (rn : Nat → Nat) (ri : Nat → Nat → Int32) (rl : Nat → Nat → Int64) (M : BC) (Ko : Option BC) (To : Option BC) (x1 : Int32) (x2 : Int32) (x3 : Int32) (post : lwPT) : Prop :=
 q_b3 (f_X0_then fu X N T L kd nu aa x1 x2 x3) fun (r1 : Int32) (X2 : BC) (T3 : BC) =>
 q_b3 (f_X3_then fu M To x1 x2 x3) fun (r6 : Int32) (M7 : BC) (TO8 : Option BC) =>
 q_ck (decide (r1 = r6)) (post X2 N T3 Yo L kd nu aa LR so rn ri rl M7 Ko TO8)
set_option maxHeartbeats 4000000 in
set_option maxRecDepth 100000 in
theorem lc_39 {p : Program} {l : Launch} {e : Env} {s : State} {m : MethodId} {below : List Frame} {meth : Method} {c : Code} {H : Heap} {locs : List Loc} {cells slots b len n : Nat} {Q : State → Prop} {xs : Nat → Int32} {adX adT adM adN : Nat → Nat} {tY tK tQ : Option ((Nat → Nat) × BC)} {ls : Array Slot} {D : va_G} {g : Nat → ClassId} {A : Nat → Prop} {X N T : BC} {L : List Nat} {kd : Nat → Nat} {nu aa : Nat → Int32} {LR : List Nat} {so rn : Nat → Nat} {ri : Nat → Nat → Int32} {rl : Nat → Nat → Int64} {M : BC} {fu : Nat} {post : lwPT} (C : lwC p l s m b c A ls adX adM len n xs) (hcs : cells + 10000 ≤ 1200384 ∧ slots + 80000 ≤ 5497258) (hW : bW D g A s H locs (lwB g adX adN adT tY adM tK tQ X N T L kd nu aa LR so rn ri rl M)) (hf : lf_39 fu X N T (tY.map Prod.snd) L kd nu aa LR so rn ri rl M (tK.map Prod.snd) (tQ.map Prod.snd) (xs (n + 1)) (xs (n + 2)) (xs (n + 3)) post) (kk : lwK p l e s m b below meth c D g A adX adT adM ls Q cells slots post) : W p l e room_1 s m #[.ref b] below meth c H locs cells slots Q (F0 m 1434 ls []) := by
  have C0 := C
  obtain ⟨hx, hb, hml, hown, hts, hst, -, -, -, -, -, hl⟩ := C0
  rw [lf_39] at hf
  have hW : bW D g A s H locs [xW g adX (adN 0) (adT 0) (o_a tY) X, vW g adN N, vW g adT T, oV g tY, gW L kd nu aa, pW g LR so rn ri rl, mW g adM (o_a tK) (o_a tQ) M, oM g tK, oM g tQ] := hW
  refine lv_aload_n hx hb dL_law_1434 rfl (lv_at hl 1 rfl) ?_
  refine lw_arg C hW 1 (K := 1) rfl (by decide) dL_law_1435 dL_law_1436 dL_law_1437 dL_law_1438 dL_law_1439 ?_
  refine lw_arg C hW 2 (K := 2) rfl (by decide) dL_law_1440 dL_law_1441 dL_law_1442 dL_law_1443 dL_law_1444 ?_
  refine lw_arg C hW 3 (K := 3) rfl (by decide) dL_law_1445 dL_law_1446 dL_law_1447 dL_law_1448 dL_law_1449 ?_
  obtain ⟨r1, X2, T3, hc4, hf⟩ := q_b3s hf
  have hp5 : List.Perm (α := va_W) [xW g adX (adN 0) (adT 0) (o_a tY) X, vW g adN N, vW g adT T, oV g tY, gW L kd nu aa, pW g LR so rn ri rl, mW g adM (o_a tK) (o_a tQ) M, oM g tK, oM g tQ] ([xW g adX (adN 0) (adT 0) (o_a tY) X, vW g adN N, vW g adT T, gW L kd nu aa] ++ [oV g tY, pW g LR so rn ri rl, mW g adM (o_a tK) (o_a tQ) M, oM g tK, oM g tQ]) := b_perm [0, 1, 2, 4] [3, 5, 6, 7, 8] 9 rfl rfl rfl rfl
  refine b_call0 ⟨rfl, rfl⟩ (va_runV (As := [.int (xs (n + 1)), .int (xs (n + 2)), .int (xs (n + 3))]) (rest := []) ⟨hx, hb, hml, hown, hts⟩ (m_X0_then l D g H.size adX (o_a tY) adN adT fu X N T L kd nu aa (xs (n + 1)) (xs (n + 2)) (xs (n + 3)) r1 X2 T3 hc4) (cwV 3 hts (lw_V q1290 q1291 q1292 q76 q1293) rfl rfl rfl (by decide +kernel) ⟨Nat.le_of_ble_eq_true rfl, Nat.le_of_ble_eq_true rfl⟩) (b_preV (pp := 0) (q := 0) hW hp5 rfl xW_0 rfl) rfl rfl hl.1 rfl (lv_room (Nat.le_of_ble_eq_true rfl)) dL_law_1450 ⟨(show cells + 0 ≤ 1200384 from by (omega)), (show slots + 0 ≤ 5497258 from by (omega))⟩) hW hp5 (fun _ _ H locs hW => ?_)
  have hW : bW D g A s H locs [xW g adX (adN 0) (adT 0) (o_a tY) X2, vW g adN N, vW g adT T3, gW L kd nu aa, oV g tY, pW g LR so rn ri rl, mW g adM (o_a tK) (o_a tQ) M, oM g tK, oM g tQ] := hW
  refine lv_aload_n hx hb dL_law_1453 rfl (lv_at hl 2 rfl) ?_
  refine lw_arg C hW 1 (K := 1) rfl (by decide) dL_law_1454 dL_law_1455 dL_law_1456 dL_law_1457 dL_law_1458 ?_
  refine lw_arg C hW 2 (K := 2) rfl (by decide) dL_law_1459 dL_law_1460 dL_law_1461 dL_law_1462 dL_law_1463 ?_
  refine lw_arg C hW 3 (K := 3) rfl (by decide) dL_law_1464 dL_law_1465 dL_law_1466 dL_law_1467 dL_law_1468 ?_
  obtain ⟨r6, M7, TO8, hc9, hf⟩ := q_b3s hf
  have hp10 : List.Perm (α := va_W) [xW g adX (adN 0) (adT 0) (o_a tY) X2, vW g adN N, vW g adT T3, gW L kd nu aa, oV g tY, pW g LR so rn ri rl, mW g adM (o_a tK) (o_a tQ) M, oM g tK, oM g tQ] ([mW g adM (o_a tK) (o_a tQ) M, oM g tQ] ++ [xW g adX (adN 0) (adT 0) (o_a tY) X2, vW g adN N, vW g adT T3, gW L kd nu aa, oV g tY, pW g LR so rn ri rl, oM g tK]) := b_perm [6, 8] [0, 1, 2, 3, 4, 5, 7] 9 rfl rfl rfl rfl
  refine b_call (va_runV (As := [.int (xs (n + 1)), .int (xs (n + 2)), .int (xs (n + 3))]) (rest := [.int r1]) ⟨hx, hb, hml, hown, hts⟩ (m_X3_then l D g H.size adM (o_a tK) tQ fu M (xs (n + 1)) (xs (n + 2)) (xs (n + 3)) r6 M7 TO8 hc9) (cwV 3 hts (lw_V q1933 q1934 q1935 q79 q1936) rfl rfl rfl (by decide +kernel) ⟨Nat.le_of_ble_eq_true rfl, Nat.le_of_ble_eq_true rfl⟩) (b_preV (pp := 6) (q := 0) hW hp10 rfl mW_0 rfl) rfl rfl hl.1 rfl (lv_room (Nat.le_of_ble_eq_true rfl)) dL_law_1469 ⟨(show cells + (o_k 45 tQ) ≤ 1200384 from by (have := lw_k 45 tQ; have := lw_k 842 tQ; omega)), (show slots + (o_k 842 tQ) ≤ 5497258 from by (have := lw_k 45 tQ; have := lw_k 842 tQ; omega))⟩) hW hp10 (fun tq11 htq12 H locs hW => ?_)
  subst htq12
  refine W.cs (cells' := (cells + (o_k 45 tQ))) (slots' := (slots + (o_k 842 tQ))) rfl rfl ?_
  have hW : bW D g A s H locs [mW g adM (o_a tK) (o_a tq11) M7, oM g tq11, xW g adX (adN 0) (adT 0) (o_a tY) X2, vW g adN N, vW g adT T3, gW L kd nu aa, oV g tY, pW g LR so rn ri rl, oM g tK] := hW
  obtain ⟨he13, hf⟩ := q_cs hf; have he13 := of_decide_eq_true he13
  refine lv_icmp_eq (tgt := 1948) hx hb dL_law_1472 (by decide) (fun _ => ?_) (fun hne => absurd he13 hne)
  exact kk adN tY tK tq11 X2 N T3 L kd nu aa LR so rn ri rl M7 _ _ _ _ hf (b_perms (Bs' := [xW g adX (adN 0) (adT 0) (o_a tY) X2, vW g adN N, vW g adT T3, oV g tY, gW L kd nu aa, pW g LR so rn ri rl, mW g adM (o_a tK) (o_a tq11) M7, oM g tK, oM g tq11]) hW (b_ord [2, 3, 4, 6, 5, 7, 0, 8, 1] 9 rfl rfl rfl)) (by (have := lw_k 45 tQ; have := lw_k 842 tQ; omega)) (by (have := lw_k 45 tQ; have := lw_k 842 tQ; omega))
def lf_40 (fu : Nat) (X : BC) (N : BC) (T : BC) (Yo : Option BC) (L : List Nat) (kd : Nat → Nat) (nu : Nat → Int32) (aa : Nat → Int32) (LR : List Nat) (so : Nat → Nat) (rn : Nat → Nat) (ri : Nat → Nat → Int32) (rl : Nat → Nat → Int64) (M : BC) (Ko : Option BC) (To : Option BC) (x1 : Int32) (x2 : Int32) (post : lwPT) : Prop :=
 q_b3 (f_X0_book fu X N T L kd nu aa x1 x2) fun (r1 : Int32) (X2 : BC) (T3 : BC) =>
 q_b3 (f_X3_book fu M To x1 x2) fun (r6 : Int32) (M7 : BC) (TO8 : Option BC) =>
 q_ck (decide (r1 = r6)) (post X2 N T3 Yo L kd nu aa LR so rn ri rl M7 Ko TO8)
set_option maxHeartbeats 4000000 in
set_option maxRecDepth 100000 in
theorem lc_40 {p : Program} {l : Launch} {e : Env} {s : State} {m : MethodId} {below : List Frame} {meth : Method} {c : Code} {H : Heap} {locs : List Loc} {cells slots b len n : Nat} {Q : State → Prop} {xs : Nat → Int32} {adX adT adM adN : Nat → Nat} {tY tK tQ : Option ((Nat → Nat) × BC)} {ls : Array Slot} {D : va_G} {g : Nat → ClassId} {A : Nat → Prop} {X N T : BC} {L : List Nat} {kd : Nat → Nat} {nu aa : Nat → Int32} {LR : List Nat} {so rn : Nat → Nat} {ri : Nat → Nat → Int32} {rl : Nat → Nat → Int64} {M : BC} {fu : Nat} {post : lwPT} (C : lwC p l s m b c A ls adX adM len n xs) (hcs : cells + 10000 ≤ 1200384 ∧ slots + 80000 ≤ 5497258) (hW : bW D g A s H locs (lwB g adX adN adT tY adM tK tQ X N T L kd nu aa LR so rn ri rl M)) (hf : lf_40 fu X N T (tY.map Prod.snd) L kd nu aa LR so rn ri rl M (tK.map Prod.snd) (tQ.map Prod.snd) (xs (n + 1)) (xs (n + 2)) post) (kk : lwK p l e s m b below meth c D g A adX adT adM ls Q cells slots post) : W p l e room_1 s m #[.ref b] below meth c H locs cells slots Q (F0 m 1477 ls []) := by
  have C0 := C
  obtain ⟨hx, hb, hml, hown, hts, hst, -, -, -, -, -, hl⟩ := C0
  rw [lf_40] at hf
  have hW : bW D g A s H locs [xW g adX (adN 0) (adT 0) (o_a tY) X, vW g adN N, vW g adT T, oV g tY, gW L kd nu aa, pW g LR so rn ri rl, mW g adM (o_a tK) (o_a tQ) M, oM g tK, oM g tQ] := hW
  refine lv_aload_n hx hb dL_law_1477 rfl (lv_at hl 1 rfl) ?_
  refine lw_arg C hW 1 (K := 1) rfl (by decide) dL_law_1478 dL_law_1479 dL_law_1480 dL_law_1481 dL_law_1482 ?_
  refine lw_arg C hW 2 (K := 2) rfl (by decide) dL_law_1483 dL_law_1484 dL_law_1485 dL_law_1486 dL_law_1487 ?_
  obtain ⟨r1, X2, T3, hc4, hf⟩ := q_b3s hf
  have hp5 : List.Perm (α := va_W) [xW g adX (adN 0) (adT 0) (o_a tY) X, vW g adN N, vW g adT T, oV g tY, gW L kd nu aa, pW g LR so rn ri rl, mW g adM (o_a tK) (o_a tQ) M, oM g tK, oM g tQ] ([xW g adX (adN 0) (adT 0) (o_a tY) X, vW g adN N, vW g adT T, gW L kd nu aa] ++ [oV g tY, pW g LR so rn ri rl, mW g adM (o_a tK) (o_a tQ) M, oM g tK, oM g tQ]) := b_perm [0, 1, 2, 4] [3, 5, 6, 7, 8] 9 rfl rfl rfl rfl
  refine b_call0 ⟨rfl, rfl⟩ (va_runV (As := [.int (xs (n + 1)), .int (xs (n + 2))]) (rest := []) ⟨hx, hb, hml, hown, hts⟩ (m_X0_book l D g H.size adX (o_a tY) adN adT fu X N T L kd nu aa (xs (n + 1)) (xs (n + 2)) r1 X2 T3 hc4) (cwV 2 hts (lw_V q1306 q1307 q1308 q76 q1309) rfl rfl rfl (by decide +kernel) ⟨Nat.le_of_ble_eq_true rfl, Nat.le_of_ble_eq_true rfl⟩) (b_preV (pp := 0) (q := 0) hW hp5 rfl xW_0 rfl) rfl rfl hl.1 rfl (lv_room (Nat.le_of_ble_eq_true rfl)) dL_law_1488 ⟨(show cells + 0 ≤ 1200384 from by (omega)), (show slots + 0 ≤ 5497258 from by (omega))⟩) hW hp5 (fun _ _ H locs hW => ?_)
  have hW : bW D g A s H locs [xW g adX (adN 0) (adT 0) (o_a tY) X2, vW g adN N, vW g adT T3, gW L kd nu aa, oV g tY, pW g LR so rn ri rl, mW g adM (o_a tK) (o_a tQ) M, oM g tK, oM g tQ] := hW
  refine lv_aload_n hx hb dL_law_1491 rfl (lv_at hl 2 rfl) ?_
  refine lw_arg C hW 1 (K := 1) rfl (by decide) dL_law_1492 dL_law_1493 dL_law_1494 dL_law_1495 dL_law_1496 ?_
  refine lw_arg C hW 2 (K := 2) rfl (by decide) dL_law_1497 dL_law_1498 dL_law_1499 dL_law_1500 dL_law_1501 ?_
  obtain ⟨r6, M7, TO8, hc9, hf⟩ := q_b3s hf
  have hp10 : List.Perm (α := va_W) [xW g adX (adN 0) (adT 0) (o_a tY) X2, vW g adN N, vW g adT T3, gW L kd nu aa, oV g tY, pW g LR so rn ri rl, mW g adM (o_a tK) (o_a tQ) M, oM g tK, oM g tQ] ([mW g adM (o_a tK) (o_a tQ) M, oM g tQ] ++ [xW g adX (adN 0) (adT 0) (o_a tY) X2, vW g adN N, vW g adT T3, gW L kd nu aa, oV g tY, pW g LR so rn ri rl, oM g tK]) := b_perm [6, 8] [0, 1, 2, 3, 4, 5, 7] 9 rfl rfl rfl rfl
  refine b_call (va_runV (As := [.int (xs (n + 1)), .int (xs (n + 2))]) (rest := [.int r1]) ⟨hx, hb, hml, hown, hts⟩ (m_X3_book l D g H.size adM (o_a tK) tQ fu M (xs (n + 1)) (xs (n + 2)) r6 M7 TO8 hc9) (cwV 2 hts (lw_V q1937 q1938 q1939 q79 q1940) rfl rfl rfl (by decide +kernel) ⟨Nat.le_of_ble_eq_true rfl, Nat.le_of_ble_eq_true rfl⟩) (b_preV (pp := 6) (q := 0) hW hp10 rfl mW_0 rfl) rfl rfl hl.1 rfl (lv_room (Nat.le_of_ble_eq_true rfl)) dL_law_1502 ⟨(show cells + (o_k 45 tQ) ≤ 1200384 from by (have := lw_k 45 tQ; have := lw_k 842 tQ; omega)), (show slots + (o_k 842 tQ) ≤ 5497258 from by (have := lw_k 45 tQ; have := lw_k 842 tQ; omega))⟩) hW hp10 (fun tq11 htq12 H locs hW => ?_)
  subst htq12
  refine W.cs (cells' := (cells + (o_k 45 tQ))) (slots' := (slots + (o_k 842 tQ))) rfl rfl ?_
  have hW : bW D g A s H locs [mW g adM (o_a tK) (o_a tq11) M7, oM g tq11, xW g adX (adN 0) (adT 0) (o_a tY) X2, vW g adN N, vW g adT T3, gW L kd nu aa, oV g tY, pW g LR so rn ri rl, oM g tK] := hW
  obtain ⟨he13, hf⟩ := q_cs hf; have he13 := of_decide_eq_true he13
  refine lv_icmp_eq (tgt := 1948) hx hb dL_law_1505 (by decide) (fun _ => ?_) (fun hne => absurd he13 hne)
  exact kk adN tY tK tq11 X2 N T3 L kd nu aa LR so rn ri rl M7 _ _ _ _ hf (b_perms (Bs' := [xW g adX (adN 0) (adT 0) (o_a tY) X2, vW g adN N, vW g adT T3, oV g tY, gW L kd nu aa, pW g LR so rn ri rl, mW g adM (o_a tK) (o_a tq11) M7, oM g tK, oM g tq11]) hW (b_ord [2, 3, 4, 6, 5, 7, 0, 8, 1] 9 rfl rfl rfl)) (by (have := lw_k 45 tQ; have := lw_k 842 tQ; omega)) (by (have := lw_k 45 tQ; have := lw_k 842 tQ; omega))
def lf_41 (fu : Nat) (X : BC) (N : BC) (T : BC) (Yo : Option BC) (L : List Nat) (kd : Nat → Nat) (nu : Nat → Int32) (aa : Nat → Int32) (LR : List Nat) (so : Nat → Nat) (rn : Nat → Nat) (ri : Nat → Nat → Int32) (rl : Nat → Nat → Int64) (M : BC) (Ko : Option BC) (To : Option BC) (x1 : Int32) (x2 : Int32) (post : lwPT) : Prop :=
 q_b3 (f_X0_written fu X N T L kd nu aa x1 x2) fun (r1 : Int32) (X2 : BC) (T3 : BC) =>
 q_b3 (f_X3_written fu M To x1 x2) fun (r6 : Int32) (M7 : BC) (TO8 : Option BC) =>
 q_ck (decide (r1 = r6)) (post X2 N T3 Yo L kd nu aa LR so rn ri rl M7 Ko TO8)
set_option maxHeartbeats 4000000 in
set_option maxRecDepth 100000 in
theorem lc_41 {p : Program} {l : Launch} {e : Env} {s : State} {m : MethodId} {below : List Frame} {meth : Method} {c : Code} {H : Heap} {locs : List Loc} {cells slots b len n : Nat} {Q : State → Prop} {xs : Nat → Int32} {adX adT adM adN : Nat → Nat} {tY tK tQ : Option ((Nat → Nat) × BC)} {ls : Array Slot} {D : va_G} {g : Nat → ClassId} {A : Nat → Prop} {X N T : BC} {L : List Nat} {kd : Nat → Nat} {nu aa : Nat → Int32} {LR : List Nat} {so rn : Nat → Nat} {ri : Nat → Nat → Int32} {rl : Nat → Nat → Int64} {M : BC} {fu : Nat} {post : lwPT} (C : lwC p l s m b c A ls adX adM len n xs) (hcs : cells + 10000 ≤ 1200384 ∧ slots + 80000 ≤ 5497258) (hW : bW D g A s H locs (lwB g adX adN adT tY adM tK tQ X N T L kd nu aa LR so rn ri rl M)) (hf : lf_41 fu X N T (tY.map Prod.snd) L kd nu aa LR so rn ri rl M (tK.map Prod.snd) (tQ.map Prod.snd) (xs (n + 1)) (xs (n + 2)) post) (kk : lwK p l e s m b below meth c D g A adX adT adM ls Q cells slots post) : W p l e room_1 s m #[.ref b] below meth c H locs cells slots Q (F0 m 1510 ls []) := by
  have C0 := C
  obtain ⟨hx, hb, hml, hown, hts, hst, -, -, -, -, -, hl⟩ := C0
  rw [lf_41] at hf
  have hW : bW D g A s H locs [xW g adX (adN 0) (adT 0) (o_a tY) X, vW g adN N, vW g adT T, oV g tY, gW L kd nu aa, pW g LR so rn ri rl, mW g adM (o_a tK) (o_a tQ) M, oM g tK, oM g tQ] := hW
  refine lv_aload_n hx hb dL_law_1510 rfl (lv_at hl 1 rfl) ?_
  refine lw_arg C hW 1 (K := 1) rfl (by decide) dL_law_1511 dL_law_1512 dL_law_1513 dL_law_1514 dL_law_1515 ?_
  refine lw_arg C hW 2 (K := 2) rfl (by decide) dL_law_1516 dL_law_1517 dL_law_1518 dL_law_1519 dL_law_1520 ?_
  obtain ⟨r1, X2, T3, hc4, hf⟩ := q_b3s hf
  have hp5 : List.Perm (α := va_W) [xW g adX (adN 0) (adT 0) (o_a tY) X, vW g adN N, vW g adT T, oV g tY, gW L kd nu aa, pW g LR so rn ri rl, mW g adM (o_a tK) (o_a tQ) M, oM g tK, oM g tQ] ([xW g adX (adN 0) (adT 0) (o_a tY) X, vW g adN N, vW g adT T, gW L kd nu aa] ++ [oV g tY, pW g LR so rn ri rl, mW g adM (o_a tK) (o_a tQ) M, oM g tK, oM g tQ]) := b_perm [0, 1, 2, 4] [3, 5, 6, 7, 8] 9 rfl rfl rfl rfl
  refine b_call0 ⟨rfl, rfl⟩ (va_runV (As := [.int (xs (n + 1)), .int (xs (n + 2))]) (rest := []) ⟨hx, hb, hml, hown, hts⟩ (m_X0_written l D g H.size adX (o_a tY) adN adT fu X N T L kd nu aa (xs (n + 1)) (xs (n + 2)) r1 X2 T3 hc4) (cwV 2 hts (lw_V q1298 q1299 q1300 q76 q1301) rfl rfl rfl (by decide +kernel) ⟨Nat.le_of_ble_eq_true rfl, Nat.le_of_ble_eq_true rfl⟩) (b_preV (pp := 0) (q := 0) hW hp5 rfl xW_0 rfl) rfl rfl hl.1 rfl (lv_room (Nat.le_of_ble_eq_true rfl)) dL_law_1521 ⟨(show cells + 0 ≤ 1200384 from by (omega)), (show slots + 0 ≤ 5497258 from by (omega))⟩) hW hp5 (fun _ _ H locs hW => ?_)
  have hW : bW D g A s H locs [xW g adX (adN 0) (adT 0) (o_a tY) X2, vW g adN N, vW g adT T3, gW L kd nu aa, oV g tY, pW g LR so rn ri rl, mW g adM (o_a tK) (o_a tQ) M, oM g tK, oM g tQ] := hW
  refine lv_aload_n hx hb dL_law_1524 rfl (lv_at hl 2 rfl) ?_
  refine lw_arg C hW 1 (K := 1) rfl (by decide) dL_law_1525 dL_law_1526 dL_law_1527 dL_law_1528 dL_law_1529 ?_
  refine lw_arg C hW 2 (K := 2) rfl (by decide) dL_law_1530 dL_law_1531 dL_law_1532 dL_law_1533 dL_law_1534 ?_
  obtain ⟨r6, M7, TO8, hc9, hf⟩ := q_b3s hf
  have hp10 : List.Perm (α := va_W) [xW g adX (adN 0) (adT 0) (o_a tY) X2, vW g adN N, vW g adT T3, gW L kd nu aa, oV g tY, pW g LR so rn ri rl, mW g adM (o_a tK) (o_a tQ) M, oM g tK, oM g tQ] ([mW g adM (o_a tK) (o_a tQ) M, oM g tQ] ++ [xW g adX (adN 0) (adT 0) (o_a tY) X2, vW g adN N, vW g adT T3, gW L kd nu aa, oV g tY, pW g LR so rn ri rl, oM g tK]) := b_perm [6, 8] [0, 1, 2, 3, 4, 5, 7] 9 rfl rfl rfl rfl
  refine b_call (va_runV (As := [.int (xs (n + 1)), .int (xs (n + 2))]) (rest := [.int r1]) ⟨hx, hb, hml, hown, hts⟩ (m_X3_written l D g H.size adM (o_a tK) tQ fu M (xs (n + 1)) (xs (n + 2)) r6 M7 TO8 hc9) (cwV 2 hts (lw_V q1949 q1950 q1951 q79 q1952) rfl rfl rfl (by decide +kernel) ⟨Nat.le_of_ble_eq_true rfl, Nat.le_of_ble_eq_true rfl⟩) (b_preV (pp := 6) (q := 0) hW hp10 rfl mW_0 rfl) rfl rfl hl.1 rfl (lv_room (Nat.le_of_ble_eq_true rfl)) dL_law_1535 ⟨(show cells + (o_k 45 tQ) ≤ 1200384 from by (have := lw_k 45 tQ; have := lw_k 842 tQ; omega)), (show slots + (o_k 842 tQ) ≤ 5497258 from by (have := lw_k 45 tQ; have := lw_k 842 tQ; omega))⟩) hW hp10 (fun tq11 htq12 H locs hW => ?_)
  subst htq12
  refine W.cs (cells' := (cells + (o_k 45 tQ))) (slots' := (slots + (o_k 842 tQ))) rfl rfl ?_
  have hW : bW D g A s H locs [mW g adM (o_a tK) (o_a tq11) M7, oM g tq11, xW g adX (adN 0) (adT 0) (o_a tY) X2, vW g adN N, vW g adT T3, gW L kd nu aa, oV g tY, pW g LR so rn ri rl, oM g tK] := hW
  obtain ⟨he13, hf⟩ := q_cs hf; have he13 := of_decide_eq_true he13
  refine lv_icmp_eq (tgt := 1948) hx hb dL_law_1538 (by decide) (fun _ => ?_) (fun hne => absurd he13 hne)
  exact kk adN tY tK tq11 X2 N T3 L kd nu aa LR so rn ri rl M7 _ _ _ _ hf (b_perms (Bs' := [xW g adX (adN 0) (adT 0) (o_a tY) X2, vW g adN N, vW g adT T3, oV g tY, gW L kd nu aa, pW g LR so rn ri rl, mW g adM (o_a tK) (o_a tq11) M7, oM g tK, oM g tq11]) hW (b_ord [2, 3, 4, 6, 5, 7, 0, 8, 1] 9 rfl rfl rfl)) (by (have := lw_k 45 tQ; have := lw_k 842 tQ; omega)) (by (have := lw_k 45 tQ; have := lw_k 842 tQ; omega))
def lf_42 (fu : Nat) (X : BC) (N : BC) (T : BC) (Yo : Option BC) (L : List Nat) (kd : Nat → Nat) (nu : Nat → Int32) (aa : Nat → Int32) (LR : List Nat) (so : Nat → Nat) (rn : Nat → Nat) (ri : Nat → Nat → Int32) (rl : Nat → Nat → Int64) (M : BC) (Ko : Option BC) (To : Option BC) (x1 : Int32) (post : lwPT) : Prop :=
 q_b3 (f_X0_many fu X N T L kd nu aa x1) fun (r1 : Int32) (X2 : BC) (T3 : BC) =>
 q_b3 (f_X3_many fu M To x1) fun (r6 : Int32) (M7 : BC) (TO8 : Option BC) =>
 q_ck (decide (r1 = r6)) (post X2 N T3 Yo L kd nu aa LR so rn ri rl M7 Ko TO8)
set_option maxHeartbeats 4000000 in
set_option maxRecDepth 100000 in
theorem lc_42 {p : Program} {l : Launch} {e : Env} {s : State} {m : MethodId} {below : List Frame} {meth : Method} {c : Code} {H : Heap} {locs : List Loc} {cells slots b len n : Nat} {Q : State → Prop} {xs : Nat → Int32} {adX adT adM adN : Nat → Nat} {tY tK tQ : Option ((Nat → Nat) × BC)} {ls : Array Slot} {D : va_G} {g : Nat → ClassId} {A : Nat → Prop} {X N T : BC} {L : List Nat} {kd : Nat → Nat} {nu aa : Nat → Int32} {LR : List Nat} {so rn : Nat → Nat} {ri : Nat → Nat → Int32} {rl : Nat → Nat → Int64} {M : BC} {fu : Nat} {post : lwPT} (C : lwC p l s m b c A ls adX adM len n xs) (hcs : cells + 10000 ≤ 1200384 ∧ slots + 80000 ≤ 5497258) (hW : bW D g A s H locs (lwB g adX adN adT tY adM tK tQ X N T L kd nu aa LR so rn ri rl M)) (hf : lf_42 fu X N T (tY.map Prod.snd) L kd nu aa LR so rn ri rl M (tK.map Prod.snd) (tQ.map Prod.snd) (xs (n + 1)) post) (kk : lwK p l e s m b below meth c D g A adX adT adM ls Q cells slots post) : W p l e room_1 s m #[.ref b] below meth c H locs cells slots Q (F0 m 1543 ls []) := by
  have C0 := C
  obtain ⟨hx, hb, hml, hown, hts, hst, -, -, -, -, -, hl⟩ := C0
  rw [lf_42] at hf
  have hW : bW D g A s H locs [xW g adX (adN 0) (adT 0) (o_a tY) X, vW g adN N, vW g adT T, oV g tY, gW L kd nu aa, pW g LR so rn ri rl, mW g adM (o_a tK) (o_a tQ) M, oM g tK, oM g tQ] := hW
  refine lv_aload_n hx hb dL_law_1543 rfl (lv_at hl 1 rfl) ?_
  refine lw_arg C hW 1 (K := 1) rfl (by decide) dL_law_1544 dL_law_1545 dL_law_1546 dL_law_1547 dL_law_1548 ?_
  obtain ⟨r1, X2, T3, hc4, hf⟩ := q_b3s hf
  have hp5 : List.Perm (α := va_W) [xW g adX (adN 0) (adT 0) (o_a tY) X, vW g adN N, vW g adT T, oV g tY, gW L kd nu aa, pW g LR so rn ri rl, mW g adM (o_a tK) (o_a tQ) M, oM g tK, oM g tQ] ([xW g adX (adN 0) (adT 0) (o_a tY) X, vW g adN N, vW g adT T, gW L kd nu aa] ++ [oV g tY, pW g LR so rn ri rl, mW g adM (o_a tK) (o_a tQ) M, oM g tK, oM g tQ]) := b_perm [0, 1, 2, 4] [3, 5, 6, 7, 8] 9 rfl rfl rfl rfl
  refine b_call0 ⟨rfl, rfl⟩ (va_runV (As := [.int (xs (n + 1))]) (rest := []) ⟨hx, hb, hml, hown, hts⟩ (m_X0_many l D g H.size adX (o_a tY) adN adT fu X N T L kd nu aa (xs (n + 1)) r1 X2 T3 hc4) (cwV 1 hts (lw_V q1314 q1315 q1316 q76 q1317) rfl rfl rfl (by decide +kernel) ⟨Nat.le_of_ble_eq_true rfl, Nat.le_of_ble_eq_true rfl⟩) (b_preV (pp := 0) (q := 0) hW hp5 rfl xW_0 rfl) rfl rfl hl.1 rfl (lv_room (Nat.le_of_ble_eq_true rfl)) dL_law_1549 ⟨(show cells + 0 ≤ 1200384 from by (omega)), (show slots + 0 ≤ 5497258 from by (omega))⟩) hW hp5 (fun _ _ H locs hW => ?_)
  have hW : bW D g A s H locs [xW g adX (adN 0) (adT 0) (o_a tY) X2, vW g adN N, vW g adT T3, gW L kd nu aa, oV g tY, pW g LR so rn ri rl, mW g adM (o_a tK) (o_a tQ) M, oM g tK, oM g tQ] := hW
  refine lv_aload_n hx hb dL_law_1552 rfl (lv_at hl 2 rfl) ?_
  refine lw_arg C hW 1 (K := 1) rfl (by decide) dL_law_1553 dL_law_1554 dL_law_1555 dL_law_1556 dL_law_1557 ?_
  obtain ⟨r6, M7, TO8, hc9, hf⟩ := q_b3s hf
  have hp10 : List.Perm (α := va_W) [xW g adX (adN 0) (adT 0) (o_a tY) X2, vW g adN N, vW g adT T3, gW L kd nu aa, oV g tY, pW g LR so rn ri rl, mW g adM (o_a tK) (o_a tQ) M, oM g tK, oM g tQ] ([mW g adM (o_a tK) (o_a tQ) M, oM g tQ] ++ [xW g adX (adN 0) (adT 0) (o_a tY) X2, vW g adN N, vW g adT T3, gW L kd nu aa, oV g tY, pW g LR so rn ri rl, oM g tK]) := b_perm [6, 8] [0, 1, 2, 3, 4, 5, 7] 9 rfl rfl rfl rfl
  refine b_call (va_runV (As := [.int (xs (n + 1))]) (rest := [.int r1]) ⟨hx, hb, hml, hown, hts⟩ (m_X3_many l D g H.size adM (o_a tK) tQ fu M (xs (n + 1)) r6 M7 TO8 hc9) (cwV 1 hts (lw_V q1953 q1954 q1955 q79 q1956) rfl rfl rfl (by decide +kernel) ⟨Nat.le_of_ble_eq_true rfl, Nat.le_of_ble_eq_true rfl⟩) (b_preV (pp := 6) (q := 0) hW hp10 rfl mW_0 rfl) rfl rfl hl.1 rfl (lv_room (Nat.le_of_ble_eq_true rfl)) dL_law_1558 ⟨(show cells + (o_k 45 tQ) ≤ 1200384 from by (have := lw_k 45 tQ; have := lw_k 842 tQ; omega)), (show slots + (o_k 842 tQ) ≤ 5497258 from by (have := lw_k 45 tQ; have := lw_k 842 tQ; omega))⟩) hW hp10 (fun tq11 htq12 H locs hW => ?_)
  subst htq12
  refine W.cs (cells' := (cells + (o_k 45 tQ))) (slots' := (slots + (o_k 842 tQ))) rfl rfl ?_
  have hW : bW D g A s H locs [mW g adM (o_a tK) (o_a tq11) M7, oM g tq11, xW g adX (adN 0) (adT 0) (o_a tY) X2, vW g adN N, vW g adT T3, gW L kd nu aa, oV g tY, pW g LR so rn ri rl, oM g tK] := hW
  obtain ⟨he13, hf⟩ := q_cs hf; have he13 := of_decide_eq_true he13
  refine lv_icmp_eq (tgt := 1948) hx hb dL_law_1561 (by decide) (fun _ => ?_) (fun hne => absurd he13 hne)
  exact kk adN tY tK tq11 X2 N T3 L kd nu aa LR so rn ri rl M7 _ _ _ _ hf (b_perms (Bs' := [xW g adX (adN 0) (adT 0) (o_a tY) X2, vW g adN N, vW g adT T3, oV g tY, gW L kd nu aa, pW g LR so rn ri rl, mW g adM (o_a tK) (o_a tq11) M7, oM g tK, oM g tq11]) hW (b_ord [2, 3, 4, 6, 5, 7, 0, 8, 1] 9 rfl rfl rfl)) (by (have := lw_k 45 tQ; have := lw_k 842 tQ; omega)) (by (have := lw_k 45 tQ; have := lw_k 842 tQ; omega))
def lf_43 (fu : Nat) (X : BC) (N : BC) (T : BC) (Yo : Option BC) (L : List Nat) (kd : Nat → Nat) (nu : Nat → Int32) (aa : Nat → Int32) (LR : List Nat) (so : Nat → Nat) (rn : Nat → Nat) (ri : Nat → Nat → Int32) (rl : Nat → Nat → Int64) (M : BC) (Ko : Option BC) (To : Option BC) (x1 : Int32) (x2 : Int32) (post : lwPT) : Prop :=
 f_X0_round fu X N T L kd nu aa x1 x2 (fun (r1 : Int32) (X2 : BC) (T3 : BC) =>
 q_b3 (f_X3_round fu M To x1 x2) fun (r6 : Int32) (M7 : BC) (TO8 : Option BC) =>
 q_ck (decide (r1 = r6)) (post X2 N T3 Yo L kd nu aa LR so rn ri rl M7 Ko TO8))
set_option maxHeartbeats 4000000 in
set_option maxRecDepth 100000 in
theorem lc_43 {p : Program} {l : Launch} {e : Env} {s : State} {m : MethodId} {below : List Frame} {meth : Method} {c : Code} {H : Heap} {locs : List Loc} {cells slots b len n : Nat} {Q : State → Prop} {xs : Nat → Int32} {adX adT adM adN : Nat → Nat} {tY tK tQ : Option ((Nat → Nat) × BC)} {ls : Array Slot} {D : va_G} {g : Nat → ClassId} {A : Nat → Prop} {X N T : BC} {L : List Nat} {kd : Nat → Nat} {nu aa : Nat → Int32} {LR : List Nat} {so rn : Nat → Nat} {ri : Nat → Nat → Int32} {rl : Nat → Nat → Int64} {M : BC} {fu : Nat} {post : lwPT} (C : lwC p l s m b c A ls adX adM len n xs) (hcs : cells + 10000 ≤ 1200384 ∧ slots + 80000 ≤ 5497258) (hW : bW D g A s H locs (lwB g adX adN adT tY adM tK tQ X N T L kd nu aa LR so rn ri rl M)) (hf : lf_43 fu X N T (tY.map Prod.snd) L kd nu aa LR so rn ri rl M (tK.map Prod.snd) (tQ.map Prod.snd) (xs (n + 1)) (xs (n + 2)) post) (kk : lwK p l e s m b below meth c D g A adX adT adM ls Q cells slots post) : W p l e room_1 s m #[.ref b] below meth c H locs cells slots Q (F0 m 1566 ls []) := by
  have C0 := C
  obtain ⟨hx, hb, hml, hown, hts, hst, -, -, -, -, -, hl⟩ := C0
  rw [lf_43] at hf
  have hW : bW D g A s H locs [xW g adX (adN 0) (adT 0) (o_a tY) X, vW g adN N, vW g adT T, oV g tY, gW L kd nu aa, pW g LR so rn ri rl, mW g adM (o_a tK) (o_a tQ) M, oM g tK, oM g tQ] := hW
  refine lv_aload_n hx hb dL_law_1566 rfl (lv_at hl 1 rfl) ?_
  refine lw_arg C hW 1 (K := 1) rfl (by decide) dL_law_1567 dL_law_1568 dL_law_1569 dL_law_1570 dL_law_1571 ?_
  refine lw_arg C hW 2 (K := 2) rfl (by decide) dL_law_1572 dL_law_1573 dL_law_1574 dL_law_1575 dL_law_1576 ?_
  have hp4 : List.Perm (α := va_W) [xW g adX (adN 0) (adT 0) (o_a tY) X, vW g adN N, vW g adT T, oV g tY, gW L kd nu aa, pW g LR so rn ri rl, mW g adM (o_a tK) (o_a tQ) M, oM g tK, oM g tQ] ([xW g adX (adN 0) (adT 0) (o_a tY) X, vW g adN N, vW g adT T, gW L kd nu aa] ++ [oV g tY, pW g LR so rn ri rl, mW g adM (o_a tK) (o_a tQ) M, oM g tK, oM g tQ]) := b_perm [0, 1, 2, 4] [3, 5, 6, 7, 8] 9 rfl rfl rfl rfl
  refine b_call (va_runV (As := [.int (xs (n + 1)), .int (xs (n + 2))]) (rest := []) ⟨hx, hb, hml, hown, hts⟩ (m_X0_round l D g H.size adX (o_a tY) adN adT fu X N T L kd nu aa (xs (n + 1)) (xs (n + 2)) _ hf) (cwV 2 hts (lw_V q1318 q1319 q1320 q76 q1321) rfl rfl rfl (by decide +kernel) ⟨Nat.le_of_ble_eq_true rfl, Nat.le_of_ble_eq_true rfl⟩) (b_preV (pp := 0) (q := 0) hW hp4 rfl xW_0 rfl) rfl rfl hl.1 rfl (lv_room (Nat.le_of_ble_eq_true rfl)) dL_law_1577 ⟨(show cells + 3 ≤ 1200384 from by (omega)), (show slots + 12 ≤ 5497258 from by (omega))⟩) hW hp4 (fun u5 hf H locs hW => ?_)
  refine W.cs (cells' := (cells + 3)) (slots' := (slots + 12)) rfl rfl ?_
  try dsimp only at hf hW
  obtain ⟨r1, X2, T3⟩ := u5; try dsimp only at hf hW ⊢
  have hW : bW D g A s H locs [xW g adX (adN 0) (adT 0) (o_a tY) X2, vW g adN N, vW g adT T3, gW L kd nu aa, oV g tY, pW g LR so rn ri rl, mW g adM (o_a tK) (o_a tQ) M, oM g tK, oM g tQ] := hW
  refine lv_aload_n hx hb dL_law_1580 rfl (lv_at hl 2 rfl) ?_
  refine lw_arg C hW 1 (K := 1) rfl (by decide) dL_law_1581 dL_law_1582 dL_law_1583 dL_law_1584 dL_law_1585 ?_
  refine lw_arg C hW 2 (K := 2) rfl (by decide) dL_law_1586 dL_law_1587 dL_law_1588 dL_law_1589 dL_law_1590 ?_
  obtain ⟨r6, M7, TO8, hc9, hf⟩ := q_b3s hf
  have hp10 : List.Perm (α := va_W) [xW g adX (adN 0) (adT 0) (o_a tY) X2, vW g adN N, vW g adT T3, gW L kd nu aa, oV g tY, pW g LR so rn ri rl, mW g adM (o_a tK) (o_a tQ) M, oM g tK, oM g tQ] ([mW g adM (o_a tK) (o_a tQ) M, oM g tQ] ++ [xW g adX (adN 0) (adT 0) (o_a tY) X2, vW g adN N, vW g adT T3, gW L kd nu aa, oV g tY, pW g LR so rn ri rl, oM g tK]) := b_perm [6, 8] [0, 1, 2, 3, 4, 5, 7] 9 rfl rfl rfl rfl
  refine b_call (va_runV (As := [.int (xs (n + 1)), .int (xs (n + 2))]) (rest := [.int r1]) ⟨hx, hb, hml, hown, hts⟩ (m_X3_round l D g H.size adM (o_a tK) tQ fu M (xs (n + 1)) (xs (n + 2)) r6 M7 TO8 hc9) (cwV 2 hts (lw_V q1957 q1958 q1959 q79 q1960) rfl rfl rfl (by decide +kernel) ⟨Nat.le_of_ble_eq_true rfl, Nat.le_of_ble_eq_true rfl⟩) (b_preV (pp := 6) (q := 0) hW hp10 rfl mW_0 rfl) rfl rfl hl.1 rfl (lv_room (Nat.le_of_ble_eq_true rfl)) dL_law_1591 ⟨(show (cells + 3) + (o_k 45 tQ) ≤ 1200384 from by (have := lw_k 45 tQ; have := lw_k 842 tQ; omega)), (show (slots + 12) + (o_k 842 tQ) ≤ 5497258 from by (have := lw_k 45 tQ; have := lw_k 842 tQ; omega))⟩) hW hp10 (fun tq11 htq12 H locs hW => ?_)
  subst htq12
  refine W.cs (cells' := ((cells + 3) + (o_k 45 tQ))) (slots' := ((slots + 12) + (o_k 842 tQ))) rfl rfl ?_
  have hW : bW D g A s H locs [mW g adM (o_a tK) (o_a tq11) M7, oM g tq11, xW g adX (adN 0) (adT 0) (o_a tY) X2, vW g adN N, vW g adT T3, gW L kd nu aa, oV g tY, pW g LR so rn ri rl, oM g tK] := hW
  obtain ⟨he13, hf⟩ := q_cs hf; have he13 := of_decide_eq_true he13
  refine lv_icmp_eq (tgt := 1948) hx hb dL_law_1594 (by decide) (fun _ => ?_) (fun hne => absurd he13 hne)
  exact kk adN tY tK tq11 X2 N T3 L kd nu aa LR so rn ri rl M7 _ _ _ _ hf (b_perms (Bs' := [xW g adX (adN 0) (adT 0) (o_a tY) X2, vW g adN N, vW g adT T3, oV g tY, gW L kd nu aa, pW g LR so rn ri rl, mW g adM (o_a tK) (o_a tq11) M7, oM g tK, oM g tq11]) hW (b_ord [2, 3, 4, 6, 5, 7, 0, 8, 1] 9 rfl rfl rfl)) (by (have := lw_k 45 tQ; have := lw_k 842 tQ; omega)) (by (have := lw_k 45 tQ; have := lw_k 842 tQ; omega))
def lf_44 (fu : Nat) (X : BC) (N : BC) (T : BC) (Yo : Option BC) (L : List Nat) (kd : Nat → Nat) (nu : Nat → Int32) (aa : Nat → Int32) (LR : List Nat) (so : Nat → Nat) (rn : Nat → Nat) (ri : Nat → Nat → Int32) (rl : Nat → Nat → Int64) (M : BC) (Ko : Option BC) (To : Option BC) (x1 : Int32) (x2 : Int32) (post : lwPT) : Prop :=
 q_b3 (f_X0_kept fu X N T L kd nu aa x1 x2) fun (r1 : Int32) (X2 : BC) (T3 : BC) =>
 q_b3 (f_X3_kept fu M To x1 x2) fun (r6 : Int32) (M7 : BC) (TO8 : Option BC) =>
 q_ck (decide (r1 = r6)) (post X2 N T3 Yo L kd nu aa LR so rn ri rl M7 Ko TO8)
set_option maxHeartbeats 4000000 in
set_option maxRecDepth 100000 in
theorem lc_44 {p : Program} {l : Launch} {e : Env} {s : State} {m : MethodId} {below : List Frame} {meth : Method} {c : Code} {H : Heap} {locs : List Loc} {cells slots b len n : Nat} {Q : State → Prop} {xs : Nat → Int32} {adX adT adM adN : Nat → Nat} {tY tK tQ : Option ((Nat → Nat) × BC)} {ls : Array Slot} {D : va_G} {g : Nat → ClassId} {A : Nat → Prop} {X N T : BC} {L : List Nat} {kd : Nat → Nat} {nu aa : Nat → Int32} {LR : List Nat} {so rn : Nat → Nat} {ri : Nat → Nat → Int32} {rl : Nat → Nat → Int64} {M : BC} {fu : Nat} {post : lwPT} (C : lwC p l s m b c A ls adX adM len n xs) (hcs : cells + 10000 ≤ 1200384 ∧ slots + 80000 ≤ 5497258) (hW : bW D g A s H locs (lwB g adX adN adT tY adM tK tQ X N T L kd nu aa LR so rn ri rl M)) (hf : lf_44 fu X N T (tY.map Prod.snd) L kd nu aa LR so rn ri rl M (tK.map Prod.snd) (tQ.map Prod.snd) (xs (n + 1)) (xs (n + 2)) post) (kk : lwK p l e s m b below meth c D g A adX adT adM ls Q cells slots post) : W p l e room_1 s m #[.ref b] below meth c H locs cells slots Q (F0 m 1599 ls []) := by
  have C0 := C
  obtain ⟨hx, hb, hml, hown, hts, hst, -, -, -, -, -, hl⟩ := C0
  rw [lf_44] at hf
  have hW : bW D g A s H locs [xW g adX (adN 0) (adT 0) (o_a tY) X, vW g adN N, vW g adT T, oV g tY, gW L kd nu aa, pW g LR so rn ri rl, mW g adM (o_a tK) (o_a tQ) M, oM g tK, oM g tQ] := hW
  refine lv_aload_n hx hb dL_law_1599 rfl (lv_at hl 1 rfl) ?_
  refine lw_arg C hW 1 (K := 1) rfl (by decide) dL_law_1600 dL_law_1601 dL_law_1602 dL_law_1603 dL_law_1604 ?_
  refine lw_arg C hW 2 (K := 2) rfl (by decide) dL_law_1605 dL_law_1606 dL_law_1607 dL_law_1608 dL_law_1609 ?_
  obtain ⟨r1, X2, T3, hc4, hf⟩ := q_b3s hf
  have hp5 : List.Perm (α := va_W) [xW g adX (adN 0) (adT 0) (o_a tY) X, vW g adN N, vW g adT T, oV g tY, gW L kd nu aa, pW g LR so rn ri rl, mW g adM (o_a tK) (o_a tQ) M, oM g tK, oM g tQ] ([xW g adX (adN 0) (adT 0) (o_a tY) X, vW g adN N, vW g adT T, gW L kd nu aa] ++ [oV g tY, pW g LR so rn ri rl, mW g adM (o_a tK) (o_a tQ) M, oM g tK, oM g tQ]) := b_perm [0, 1, 2, 4] [3, 5, 6, 7, 8] 9 rfl rfl rfl rfl
  refine b_call0 ⟨rfl, rfl⟩ (va_runV (As := [.int (xs (n + 1)), .int (xs (n + 2))]) (rest := []) ⟨hx, hb, hml, hown, hts⟩ (m_X0_kept l D g H.size adX (o_a tY) adN adT fu X N T L kd nu aa (xs (n + 1)) (xs (n + 2)) r1 X2 T3 hc4) (cwV 2 hts (lw_V q1360 q1361 q1362 q76 q1363) rfl rfl rfl (by decide +kernel) ⟨Nat.le_of_ble_eq_true rfl, Nat.le_of_ble_eq_true rfl⟩) (b_preV (pp := 0) (q := 0) hW hp5 rfl xW_0 rfl) rfl rfl hl.1 rfl (lv_room (Nat.le_of_ble_eq_true rfl)) dL_law_1610 ⟨(show cells + 0 ≤ 1200384 from by (omega)), (show slots + 0 ≤ 5497258 from by (omega))⟩) hW hp5 (fun _ _ H locs hW => ?_)
  have hW : bW D g A s H locs [xW g adX (adN 0) (adT 0) (o_a tY) X2, vW g adN N, vW g adT T3, gW L kd nu aa, oV g tY, pW g LR so rn ri rl, mW g adM (o_a tK) (o_a tQ) M, oM g tK, oM g tQ] := hW
  refine lv_aload_n hx hb dL_law_1613 rfl (lv_at hl 2 rfl) ?_
  refine lw_arg C hW 1 (K := 1) rfl (by decide) dL_law_1614 dL_law_1615 dL_law_1616 dL_law_1617 dL_law_1618 ?_
  refine lw_arg C hW 2 (K := 2) rfl (by decide) dL_law_1619 dL_law_1620 dL_law_1621 dL_law_1622 dL_law_1623 ?_
  obtain ⟨r6, M7, TO8, hc9, hf⟩ := q_b3s hf
  have hp10 : List.Perm (α := va_W) [xW g adX (adN 0) (adT 0) (o_a tY) X2, vW g adN N, vW g adT T3, gW L kd nu aa, oV g tY, pW g LR so rn ri rl, mW g adM (o_a tK) (o_a tQ) M, oM g tK, oM g tQ] ([mW g adM (o_a tK) (o_a tQ) M, oM g tQ] ++ [xW g adX (adN 0) (adT 0) (o_a tY) X2, vW g adN N, vW g adT T3, gW L kd nu aa, oV g tY, pW g LR so rn ri rl, oM g tK]) := b_perm [6, 8] [0, 1, 2, 3, 4, 5, 7] 9 rfl rfl rfl rfl
  refine b_call (va_runV (As := [.int (xs (n + 1)), .int (xs (n + 2))]) (rest := [.int r1]) ⟨hx, hb, hml, hown, hts⟩ (m_X3_kept l D g H.size adM (o_a tK) tQ fu M (xs (n + 1)) (xs (n + 2)) r6 M7 TO8 hc9) (cwV 2 hts (lw_V q1966 q1967 q1968 q79 q1969) rfl rfl rfl (by decide +kernel) ⟨Nat.le_of_ble_eq_true rfl, Nat.le_of_ble_eq_true rfl⟩) (b_preV (pp := 6) (q := 0) hW hp10 rfl mW_0 rfl) rfl rfl hl.1 rfl (lv_room (Nat.le_of_ble_eq_true rfl)) dL_law_1624 ⟨(show cells + (o_k 45 tQ) ≤ 1200384 from by (have := lw_k 45 tQ; have := lw_k 842 tQ; omega)), (show slots + (o_k 842 tQ) ≤ 5497258 from by (have := lw_k 45 tQ; have := lw_k 842 tQ; omega))⟩) hW hp10 (fun tq11 htq12 H locs hW => ?_)
  subst htq12
  refine W.cs (cells' := (cells + (o_k 45 tQ))) (slots' := (slots + (o_k 842 tQ))) rfl rfl ?_
  have hW : bW D g A s H locs [mW g adM (o_a tK) (o_a tq11) M7, oM g tq11, xW g adX (adN 0) (adT 0) (o_a tY) X2, vW g adN N, vW g adT T3, gW L kd nu aa, oV g tY, pW g LR so rn ri rl, oM g tK] := hW
  obtain ⟨he13, hf⟩ := q_cs hf; have he13 := of_decide_eq_true he13
  refine lv_icmp_eq (tgt := 1948) hx hb dL_law_1627 (by decide) (fun _ => ?_) (fun hne => absurd he13 hne)
  exact kk adN tY tK tq11 X2 N T3 L kd nu aa LR so rn ri rl M7 _ _ _ _ hf (b_perms (Bs' := [xW g adX (adN 0) (adT 0) (o_a tY) X2, vW g adN N, vW g adT T3, oV g tY, gW L kd nu aa, pW g LR so rn ri rl, mW g adM (o_a tK) (o_a tq11) M7, oM g tK, oM g tq11]) hW (b_ord [2, 3, 4, 6, 5, 7, 0, 8, 1] 9 rfl rfl rfl)) (by (have := lw_k 45 tQ; have := lw_k 842 tQ; omega)) (by (have := lw_k 45 tQ; have := lw_k 842 tQ; omega))
