/-! THE LAW's cases: printed by gen/lawg.py -/
set_option maxRecDepth 100000
def lf_45 (fu : Nat) (X : BC) (N : BC) (T : BC) (Yo : Option BC) (L : List Nat) (kd : Nat → Nat) (nu : Nat → Int32) (aa : Nat → Int32) (LR : List Nat) (so : Nat → Nat) (rn : Nat → Nat) (ri : Nat → Nat → Int32) (rl : Nat → Nat → Int64) (M : BC) (Ko : Option BC) (To : Option BC) (x1 : Int32) (x2 : Int32) (x3 : Int32) (post : lwPT) : Prop :=
 q_b3 (f_X0_called fu X N T L kd nu aa x1 x2 x3) fun (r1 : Int32) (X2 : BC) (T3 : BC) =>
 q_b3 (f_X3_called fu M To x1 x2 x3) fun (r6 : Int32) (M7 : BC) (TO8 : Option BC) =>
 q_ck (decide (r1 = r6)) (post X2 N T3 Yo L kd nu aa LR so rn ri rl M7 Ko TO8)
set_option maxHeartbeats 4000000 in
set_option maxRecDepth 100000 in
theorem lc_45 {p : Program} {l : Launch} {e : Env} {s : State} {m : MethodId} {below : List Frame} {meth : Method} {c : Code} {H : Heap} {locs : List Loc} {cells slots b len n : Nat} {Q : State → Prop} {xs : Nat → Int32} {adX adT adM adN : Nat → Nat} {tY tK tQ : Option ((Nat → Nat) × BC)} {ls : Array Slot} {D : va_G} {g : Nat → ClassId} {A : Nat → Prop} {X N T : BC} {L : List Nat} {kd : Nat → Nat} {nu aa : Nat → Int32} {LR : List Nat} {so rn : Nat → Nat} {ri : Nat → Nat → Int32} {rl : Nat → Nat → Int64} {M : BC} {fu : Nat} {post : lwPT} (C : lwC p l s m b c A ls adX adM len n xs) (hcs : cells + 10000 ≤ 1200384 ∧ slots + 80000 ≤ 5497258) (hW : bW D g A s H locs (lwB g adX adN adT tY adM tK tQ X N T L kd nu aa LR so rn ri rl M)) (hf : lf_45 fu X N T (tY.map Prod.snd) L kd nu aa LR so rn ri rl M (tK.map Prod.snd) (tQ.map Prod.snd) (xs (n + 1)) (xs (n + 2)) (xs (n + 3)) post) (kk : lwK p l e s m b below meth c D g A adX adT adM ls Q cells slots post) : W p l e room_1 s m #[.ref b] below meth c H locs cells slots Q (F0 m 1632 ls []) := by
  have C0 := C
  obtain ⟨hx, hb, hml, hown, hts, hst, -, -, -, -, -, hl⟩ := C0
  rw [lf_45] at hf
  have hW : bW D g A s H locs [xW g adX (adN 0) (adT 0) (o_a tY) X, vW g adN N, vW g adT T, oV g tY, gW L kd nu aa, pW g LR so rn ri rl, mW g adM (o_a tK) (o_a tQ) M, oM g tK, oM g tQ] := hW
  refine lv_aload_n hx hb dL_law_1632 rfl (lv_at hl 1 rfl) ?_
  refine lw_arg C hW 1 (K := 1) rfl (by decide) dL_law_1633 dL_law_1634 dL_law_1635 dL_law_1636 dL_law_1637 ?_
  refine lw_arg C hW 2 (K := 2) rfl (by decide) dL_law_1638 dL_law_1639 dL_law_1640 dL_law_1641 dL_law_1642 ?_
  refine lw_arg C hW 3 (K := 3) rfl (by decide) dL_law_1643 dL_law_1644 dL_law_1645 dL_law_1646 dL_law_1647 ?_
  obtain ⟨r1, X2, T3, hc4, hf⟩ := q_b3s hf
  have hp5 : List.Perm (α := va_W) [xW g adX (adN 0) (adT 0) (o_a tY) X, vW g adN N, vW g adT T, oV g tY, gW L kd nu aa, pW g LR so rn ri rl, mW g adM (o_a tK) (o_a tQ) M, oM g tK, oM g tQ] ([xW g adX (adN 0) (adT 0) (o_a tY) X, vW g adN N, vW g adT T, gW L kd nu aa] ++ [oV g tY, pW g LR so rn ri rl, mW g adM (o_a tK) (o_a tQ) M, oM g tK, oM g tQ]) := b_perm [0, 1, 2, 4] [3, 5, 6, 7, 8] 9 rfl rfl rfl rfl
  refine b_call0 ⟨rfl, rfl⟩ (va_runV (As := [.int (xs (n + 1)), .int (xs (n + 2)), .int (xs (n + 3))]) (rest := []) ⟨hx, hb, hml, hown, hts⟩ (m_X0_called l D g H.size adX (o_a tY) adN adT fu X N T L kd nu aa (xs (n + 1)) (xs (n + 2)) (xs (n + 3)) r1 X2 T3 hc4) (cwV 3 hts (lw_V q1373 q1374 q1375 q76 q1376) rfl rfl rfl (by decide +kernel) ⟨Nat.le_of_ble_eq_true rfl, Nat.le_of_ble_eq_true rfl⟩) (b_preV (pp := 0) (q := 0) hW hp5 rfl xW_0 rfl) rfl rfl hl.1 rfl (lv_room (Nat.le_of_ble_eq_true rfl)) dL_law_1648 ⟨(show cells + 0 ≤ 1200384 from by (omega)), (show slots + 0 ≤ 5497258 from by (omega))⟩) hW hp5 (fun _ _ H locs hW => ?_)
  have hW : bW D g A s H locs [xW g adX (adN 0) (adT 0) (o_a tY) X2, vW g adN N, vW g adT T3, gW L kd nu aa, oV g tY, pW g LR so rn ri rl, mW g adM (o_a tK) (o_a tQ) M, oM g tK, oM g tQ] := hW
  refine lv_aload_n hx hb dL_law_1651 rfl (lv_at hl 2 rfl) ?_
  refine lw_arg C hW 1 (K := 1) rfl (by decide) dL_law_1652 dL_law_1653 dL_law_1654 dL_law_1655 dL_law_1656 ?_
  refine lw_arg C hW 2 (K := 2) rfl (by decide) dL_law_1657 dL_law_1658 dL_law_1659 dL_law_1660 dL_law_1661 ?_
  refine lw_arg C hW 3 (K := 3) rfl (by decide) dL_law_1662 dL_law_1663 dL_law_1664 dL_law_1665 dL_law_1666 ?_
  obtain ⟨r6, M7, TO8, hc9, hf⟩ := q_b3s hf
  have hp10 : List.Perm (α := va_W) [xW g adX (adN 0) (adT 0) (o_a tY) X2, vW g adN N, vW g adT T3, gW L kd nu aa, oV g tY, pW g LR so rn ri rl, mW g adM (o_a tK) (o_a tQ) M, oM g tK, oM g tQ] ([mW g adM (o_a tK) (o_a tQ) M, oM g tQ] ++ [xW g adX (adN 0) (adT 0) (o_a tY) X2, vW g adN N, vW g adT T3, gW L kd nu aa, oV g tY, pW g LR so rn ri rl, oM g tK]) := b_perm [6, 8] [0, 1, 2, 3, 4, 5, 7] 9 rfl rfl rfl rfl
  refine b_call (va_runV (As := [.int (xs (n + 1)), .int (xs (n + 2)), .int (xs (n + 3))]) (rest := [.int r1]) ⟨hx, hb, hml, hown, hts⟩ (m_X3_called l D g H.size adM (o_a tK) tQ fu M (xs (n + 1)) (xs (n + 2)) (xs (n + 3)) r6 M7 TO8 hc9) (cwV 3 hts (lw_V q1974 q1975 q1976 q79 q1977) rfl rfl rfl (by decide +kernel) ⟨Nat.le_of_ble_eq_true rfl, Nat.le_of_ble_eq_true rfl⟩) (b_preV (pp := 6) (q := 0) hW hp10 rfl mW_0 rfl) rfl rfl hl.1 rfl (lv_room (Nat.le_of_ble_eq_true rfl)) dL_law_1667 ⟨(show cells + (o_k 45 tQ) ≤ 1200384 from by (have := lw_k 45 tQ; have := lw_k 842 tQ; omega)), (show slots + (o_k 842 tQ) ≤ 5497258 from by (have := lw_k 45 tQ; have := lw_k 842 tQ; omega))⟩) hW hp10 (fun tq11 htq12 H locs hW => ?_)
  subst htq12
  refine W.cs (cells' := (cells + (o_k 45 tQ))) (slots' := (slots + (o_k 842 tQ))) rfl rfl ?_
  have hW : bW D g A s H locs [mW g adM (o_a tK) (o_a tq11) M7, oM g tq11, xW g adX (adN 0) (adT 0) (o_a tY) X2, vW g adN N, vW g adT T3, gW L kd nu aa, oV g tY, pW g LR so rn ri rl, oM g tK] := hW
  obtain ⟨he13, hf⟩ := q_cs hf; have he13 := of_decide_eq_true he13
  refine lv_icmp_eq (tgt := 1948) hx hb dL_law_1670 (by decide) (fun _ => ?_) (fun hne => absurd he13 hne)
  exact kk adN tY tK tq11 X2 N T3 L kd nu aa LR so rn ri rl M7 _ _ _ _ hf (b_perms (Bs' := [xW g adX (adN 0) (adT 0) (o_a tY) X2, vW g adN N, vW g adT T3, oV g tY, gW L kd nu aa, pW g LR so rn ri rl, mW g adM (o_a tK) (o_a tq11) M7, oM g tK, oM g tq11]) hW (b_ord [2, 3, 4, 6, 5, 7, 0, 8, 1] 9 rfl rfl rfl)) (by (have := lw_k 45 tQ; have := lw_k 842 tQ; omega)) (by (have := lw_k 45 tQ; have := lw_k 842 tQ; omega))
def lf_46 (fu : Nat) (X : BC) (N : BC) (T : BC) (Yo : Option BC) (L : List Nat) (kd : Nat → Nat) (nu : Nat → Int32) (aa : Nat → Int32) (LR : List Nat) (so : Nat → Nat) (rn : Nat → Nat) (ri : Nat → Nat → Int32) (rl : Nat → Nat → Int64) (M : BC) (Ko : Option BC) (To : Option BC) (x1 : Int32) (x2 : Int32) (post : lwPT) : Prop :=
 q_b3 (f_X0_spoilt fu X N T L kd nu aa x1 x2) fun (r1 : Int32) (X2 : BC) (T3 : BC) =>
 q_b3 (f_X3_spoilt fu M To x1 x2) fun (r6 : Int32) (M7 : BC) (TO8 : Option BC) =>
 q_ck (decide (r1 = r6)) (post X2 N T3 Yo L kd nu aa LR so rn ri rl M7 Ko TO8)
set_option maxHeartbeats 4000000 in
set_option maxRecDepth 100000 in
theorem lc_46 {p : Program} {l : Launch} {e : Env} {s : State} {m : MethodId} {below : List Frame} {meth : Method} {c : Code} {H : Heap} {locs : List Loc} {cells slots b len n : Nat} {Q : State → Prop} {xs : Nat → Int32} {adX adT adM adN : Nat → Nat} {tY tK tQ : Option ((Nat → Nat) × BC)} {ls : Array Slot} {D : va_G} {g : Nat → ClassId} {A : Nat → Prop} {X N T : BC} {L : List Nat} {kd : Nat → Nat} {nu aa : Nat → Int32} {LR : List Nat} {so rn : Nat → Nat} {ri : Nat → Nat → Int32} {rl : Nat → Nat → Int64} {M : BC} {fu : Nat} {post : lwPT} (C : lwC p l s m b c A ls adX adM len n xs) (hcs : cells + 10000 ≤ 1200384 ∧ slots + 80000 ≤ 5497258) (hW : bW D g A s H locs (lwB g adX adN adT tY adM tK tQ X N T L kd nu aa LR so rn ri rl M)) (hf : lf_46 fu X N T (tY.map Prod.snd) L kd nu aa LR so rn ri rl M (tK.map Prod.snd) (tQ.map Prod.snd) (xs (n + 1)) (xs (n + 2)) post) (kk : lwK p l e s m b below meth c D g A adX adT adM ls Q cells slots post) : W p l e room_1 s m #[.ref b] below meth c H locs cells slots Q (F0 m 1675 ls []) := by
  have C0 := C
  obtain ⟨hx, hb, hml, hown, hts, hst, -, -, -, -, -, hl⟩ := C0
  rw [lf_46] at hf
  have hW : bW D g A s H locs [xW g adX (adN 0) (adT 0) (o_a tY) X, vW g adN N, vW g adT T, oV g tY, gW L kd nu aa, pW g LR so rn ri rl, mW g adM (o_a tK) (o_a tQ) M, oM g tK, oM g tQ] := hW
  refine lv_aload_n hx hb dL_law_1675 rfl (lv_at hl 1 rfl) ?_
  refine lw_arg C hW 1 (K := 1) rfl (by decide) dL_law_1676 dL_law_1677 dL_law_1678 dL_law_1679 dL_law_1680 ?_
  refine lw_arg C hW 2 (K := 2) rfl (by decide) dL_law_1681 dL_law_1682 dL_law_1683 dL_law_1684 dL_law_1685 ?_
  obtain ⟨r1, X2, T3, hc4, hf⟩ := q_b3s hf
  have hp5 : List.Perm (α := va_W) [xW g adX (adN 0) (adT 0) (o_a tY) X, vW g adN N, vW g adT T, oV g tY, gW L kd nu aa, pW g LR so rn ri rl, mW g adM (o_a tK) (o_a tQ) M, oM g tK, oM g tQ] ([xW g adX (adN 0) (adT 0) (o_a tY) X, vW g adN N, vW g adT T, gW L kd nu aa] ++ [oV g tY, pW g LR so rn ri rl, mW g adM (o_a tK) (o_a tQ) M, oM g tK, oM g tQ]) := b_perm [0, 1, 2, 4] [3, 5, 6, 7, 8] 9 rfl rfl rfl rfl
  refine b_call0 ⟨rfl, rfl⟩ (va_runV (As := [.int (xs (n + 1)), .int (xs (n + 2))]) (rest := []) ⟨hx, hb, hml, hown, hts⟩ (m_X0_spoilt l D g H.size adX (o_a tY) adN adT fu X N T L kd nu aa (xs (n + 1)) (xs (n + 2)) r1 X2 T3 hc4) (cwV 2 hts (lw_V q1377 q1378 q1379 q76 q1380) rfl rfl rfl (by decide +kernel) ⟨Nat.le_of_ble_eq_true rfl, Nat.le_of_ble_eq_true rfl⟩) (b_preV (pp := 0) (q := 0) hW hp5 rfl xW_0 rfl) rfl rfl hl.1 rfl (lv_room (Nat.le_of_ble_eq_true rfl)) dL_law_1686 ⟨(show cells + 0 ≤ 1200384 from by (omega)), (show slots + 0 ≤ 5497258 from by (omega))⟩) hW hp5 (fun _ _ H locs hW => ?_)
  have hW : bW D g A s H locs [xW g adX (adN 0) (adT 0) (o_a tY) X2, vW g adN N, vW g adT T3, gW L kd nu aa, oV g tY, pW g LR so rn ri rl, mW g adM (o_a tK) (o_a tQ) M, oM g tK, oM g tQ] := hW
  refine lv_aload_n hx hb dL_law_1689 rfl (lv_at hl 2 rfl) ?_
  refine lw_arg C hW 1 (K := 1) rfl (by decide) dL_law_1690 dL_law_1691 dL_law_1692 dL_law_1693 dL_law_1694 ?_
  refine lw_arg C hW 2 (K := 2) rfl (by decide) dL_law_1695 dL_law_1696 dL_law_1697 dL_law_1698 dL_law_1699 ?_
  obtain ⟨r6, M7, TO8, hc9, hf⟩ := q_b3s hf
  have hp10 : List.Perm (α := va_W) [xW g adX (adN 0) (adT 0) (o_a tY) X2, vW g adN N, vW g adT T3, gW L kd nu aa, oV g tY, pW g LR so rn ri rl, mW g adM (o_a tK) (o_a tQ) M, oM g tK, oM g tQ] ([mW g adM (o_a tK) (o_a tQ) M, oM g tQ] ++ [xW g adX (adN 0) (adT 0) (o_a tY) X2, vW g adN N, vW g adT T3, gW L kd nu aa, oV g tY, pW g LR so rn ri rl, oM g tK]) := b_perm [6, 8] [0, 1, 2, 3, 4, 5, 7] 9 rfl rfl rfl rfl
  refine b_call (va_runV (As := [.int (xs (n + 1)), .int (xs (n + 2))]) (rest := [.int r1]) ⟨hx, hb, hml, hown, hts⟩ (m_X3_spoilt l D g H.size adM (o_a tK) tQ fu M (xs (n + 1)) (xs (n + 2)) r6 M7 TO8 hc9) (cwV 2 hts (lw_V q1978 q1979 q1980 q79 q1981) rfl rfl rfl (by decide +kernel) ⟨Nat.le_of_ble_eq_true rfl, Nat.le_of_ble_eq_true rfl⟩) (b_preV (pp := 6) (q := 0) hW hp10 rfl mW_0 rfl) rfl rfl hl.1 rfl (lv_room (Nat.le_of_ble_eq_true rfl)) dL_law_1700 ⟨(show cells + (o_k 45 tQ) ≤ 1200384 from by (have := lw_k 45 tQ; have := lw_k 842 tQ; omega)), (show slots + (o_k 842 tQ) ≤ 5497258 from by (have := lw_k 45 tQ; have := lw_k 842 tQ; omega))⟩) hW hp10 (fun tq11 htq12 H locs hW => ?_)
  subst htq12
  refine W.cs (cells' := (cells + (o_k 45 tQ))) (slots' := (slots + (o_k 842 tQ))) rfl rfl ?_
  have hW : bW D g A s H locs [mW g adM (o_a tK) (o_a tq11) M7, oM g tq11, xW g adX (adN 0) (adT 0) (o_a tY) X2, vW g adN N, vW g adT T3, gW L kd nu aa, oV g tY, pW g LR so rn ri rl, oM g tK] := hW
  obtain ⟨he13, hf⟩ := q_cs hf; have he13 := of_decide_eq_true he13
  refine lv_icmp_eq (tgt := 1948) hx hb dL_law_1703 (by decide) (fun _ => ?_) (fun hne => absurd he13 hne)
  exact kk adN tY tK tq11 X2 N T3 L kd nu aa LR so rn ri rl M7 _ _ _ _ hf (b_perms (Bs' := [xW g adX (adN 0) (adT 0) (o_a tY) X2, vW g adN N, vW g adT T3, oV g tY, gW L kd nu aa, pW g LR so rn ri rl, mW g adM (o_a tK) (o_a tq11) M7, oM g tK, oM g tq11]) hW (b_ord [2, 3, 4, 6, 5, 7, 0, 8, 1] 9 rfl rfl rfl)) (by (have := lw_k 45 tQ; have := lw_k 842 tQ; omega)) (by (have := lw_k 45 tQ; have := lw_k 842 tQ; omega))
def lf_47 (fu : Nat) (X : BC) (N : BC) (T : BC) (Yo : Option BC) (L : List Nat) (kd : Nat → Nat) (nu : Nat → Int32) (aa : Nat → Int32) (LR : List Nat) (so : Nat → Nat) (rn : Nat → Nat) (ri : Nat → Nat → Int32) (rl : Nat → Nat → Int64) (M : BC) (Ko : Option BC) (To : Option BC) (x1 : Int32) (x2 : Int32) (x3 : Int32) (x4 : Int32) (post : lwPT) : Prop :=
 q_b3 (f_X0_bears fu X N T L kd nu aa x1 x2 x3 x4) fun (r1 : Int32) (X2 : BC) (T3 : BC) =>
 q_b3 (f_X3_bears fu M To x1 x2 x3 x4) fun (r6 : Int32) (M7 : BC) (TO8 : Option BC) =>
 q_ck (decide (r1 = r6)) (post X2 N T3 Yo L kd nu aa LR so rn ri rl M7 Ko TO8)
set_option maxHeartbeats 4000000 in
set_option maxRecDepth 100000 in
theorem lc_47 {p : Program} {l : Launch} {e : Env} {s : State} {m : MethodId} {below : List Frame} {meth : Method} {c : Code} {H : Heap} {locs : List Loc} {cells slots b len n : Nat} {Q : State → Prop} {xs : Nat → Int32} {adX adT adM adN : Nat → Nat} {tY tK tQ : Option ((Nat → Nat) × BC)} {ls : Array Slot} {D : va_G} {g : Nat → ClassId} {A : Nat → Prop} {X N T : BC} {L : List Nat} {kd : Nat → Nat} {nu aa : Nat → Int32} {LR : List Nat} {so rn : Nat → Nat} {ri : Nat → Nat → Int32} {rl : Nat → Nat → Int64} {M : BC} {fu : Nat} {post : lwPT} (C : lwC p l s m b c A ls adX adM len n xs) (hcs : cells + 10000 ≤ 1200384 ∧ slots + 80000 ≤ 5497258) (hW : bW D g A s H locs (lwB g adX adN adT tY adM tK tQ X N T L kd nu aa LR so rn ri rl M)) (hf : lf_47 fu X N T (tY.map Prod.snd) L kd nu aa LR so rn ri rl M (tK.map Prod.snd) (tQ.map Prod.snd) (xs (n + 1)) (xs (n + 2)) (xs (n + 3)) (xs (n + 4)) post) (kk : lwK p l e s m b below meth c D g A adX adT adM ls Q cells slots post) : W p l e room_1 s m #[.ref b] below meth c H locs cells slots Q (F0 m 1708 ls []) := by
  have C0 := C
  obtain ⟨hx, hb, hml, hown, hts, hst, -, -, -, -, -, hl⟩ := C0
  rw [lf_47] at hf
  have hW : bW D g A s H locs [xW g adX (adN 0) (adT 0) (o_a tY) X, vW g adN N, vW g adT T, oV g tY, gW L kd nu aa, pW g LR so rn ri rl, mW g adM (o_a tK) (o_a tQ) M, oM g tK, oM g tQ] := hW
  refine lv_aload_n hx hb dL_law_1708 rfl (lv_at hl 1 rfl) ?_
  refine lw_arg C hW 1 (K := 1) rfl (by decide) dL_law_1709 dL_law_1710 dL_law_1711 dL_law_1712 dL_law_1713 ?_
  refine lw_arg C hW 2 (K := 2) rfl (by decide) dL_law_1714 dL_law_1715 dL_law_1716 dL_law_1717 dL_law_1718 ?_
  refine lw_arg C hW 3 (K := 3) rfl (by decide) dL_law_1719 dL_law_1720 dL_law_1721 dL_law_1722 dL_law_1723 ?_
  refine lw_arg C hW 4 (K := 4) rfl (by decide) dL_law_1724 dL_law_1725 dL_law_1726 dL_law_1727 dL_law_1728 ?_
  obtain ⟨r1, X2, T3, hc4, hf⟩ := q_b3s hf
  have hp5 : List.Perm (α := va_W) [xW g adX (adN 0) (adT 0) (o_a tY) X, vW g adN N, vW g adT T, oV g tY, gW L kd nu aa, pW g LR so rn ri rl, mW g adM (o_a tK) (o_a tQ) M, oM g tK, oM g tQ] ([xW g adX (adN 0) (adT 0) (o_a tY) X, vW g adN N, vW g adT T, gW L kd nu aa] ++ [oV g tY, pW g LR so rn ri rl, mW g adM (o_a tK) (o_a tQ) M, oM g tK, oM g tQ]) := b_perm [0, 1, 2, 4] [3, 5, 6, 7, 8] 9 rfl rfl rfl rfl
  refine b_call0 ⟨rfl, rfl⟩ (va_runV (As := [.int (xs (n + 1)), .int (xs (n + 2)), .int (xs (n + 3)), .int (xs (n + 4))]) (rest := []) ⟨hx, hb, hml, hown, hts⟩ (m_X0_bears l D g H.size adX (o_a tY) adN adT fu X N T L kd nu aa (xs (n + 1)) (xs (n + 2)) (xs (n + 3)) (xs (n + 4)) r1 X2 T3 hc4) (cwV 4 hts (lw_V q1381 q1382 q1383 q76 q1384) rfl rfl rfl (by decide +kernel) ⟨Nat.le_of_ble_eq_true rfl, Nat.le_of_ble_eq_true rfl⟩) (b_preV (pp := 0) (q := 0) hW hp5 rfl xW_0 rfl) rfl rfl hl.1 rfl (lv_room (Nat.le_of_ble_eq_true rfl)) dL_law_1729 ⟨(show cells + 0 ≤ 1200384 from by (omega)), (show slots + 0 ≤ 5497258 from by (omega))⟩) hW hp5 (fun _ _ H locs hW => ?_)
  have hW : bW D g A s H locs [xW g adX (adN 0) (adT 0) (o_a tY) X2, vW g adN N, vW g adT T3, gW L kd nu aa, oV g tY, pW g LR so rn ri rl, mW g adM (o_a tK) (o_a tQ) M, oM g tK, oM g tQ] := hW
  refine lv_aload_n hx hb dL_law_1732 rfl (lv_at hl 2 rfl) ?_
  refine lw_arg C hW 1 (K := 1) rfl (by decide) dL_law_1733 dL_law_1734 dL_law_1735 dL_law_1736 dL_law_1737 ?_
  refine lw_arg C hW 2 (K := 2) rfl (by decide) dL_law_1738 dL_law_1739 dL_law_1740 dL_law_1741 dL_law_1742 ?_
  refine lw_arg C hW 3 (K := 3) rfl (by decide) dL_law_1743 dL_law_1744 dL_law_1745 dL_law_1746 dL_law_1747 ?_
  refine lw_arg C hW 4 (K := 4) rfl (by decide) dL_law_1748 dL_law_1749 dL_law_1750 dL_law_1751 dL_law_1752 ?_
  obtain ⟨r6, M7, TO8, hc9, hf⟩ := q_b3s hf
  have hp10 : List.Perm (α := va_W) [xW g adX (adN 0) (adT 0) (o_a tY) X2, vW g adN N, vW g adT T3, gW L kd nu aa, oV g tY, pW g LR so rn ri rl, mW g adM (o_a tK) (o_a tQ) M, oM g tK, oM g tQ] ([mW g adM (o_a tK) (o_a tQ) M, oM g tQ] ++ [xW g adX (adN 0) (adT 0) (o_a tY) X2, vW g adN N, vW g adT T3, gW L kd nu aa, oV g tY, pW g LR so rn ri rl, oM g tK]) := b_perm [6, 8] [0, 1, 2, 3, 4, 5, 7] 9 rfl rfl rfl rfl
  refine b_call (va_runV (As := [.int (xs (n + 1)), .int (xs (n + 2)), .int (xs (n + 3)), .int (xs (n + 4))]) (rest := [.int r1]) ⟨hx, hb, hml, hown, hts⟩ (m_X3_bears l D g H.size adM (o_a tK) tQ fu M (xs (n + 1)) (xs (n + 2)) (xs (n + 3)) (xs (n + 4)) r6 M7 TO8 hc9) (cwV 4 hts (lw_V q1982 q1983 q1984 q79 q1985) rfl rfl rfl (by decide +kernel) ⟨Nat.le_of_ble_eq_true rfl, Nat.le_of_ble_eq_true rfl⟩) (b_preV (pp := 6) (q := 0) hW hp10 rfl mW_0 rfl) rfl rfl hl.1 rfl (lv_room (Nat.le_of_ble_eq_true rfl)) dL_law_1753 ⟨(show cells + (o_k 45 tQ) ≤ 1200384 from by (have := lw_k 45 tQ; have := lw_k 842 tQ; omega)), (show slots + (o_k 842 tQ) ≤ 5497258 from by (have := lw_k 45 tQ; have := lw_k 842 tQ; omega))⟩) hW hp10 (fun tq11 htq12 H locs hW => ?_)
  subst htq12
  refine W.cs (cells' := (cells + (o_k 45 tQ))) (slots' := (slots + (o_k 842 tQ))) rfl rfl ?_
  have hW : bW D g A s H locs [mW g adM (o_a tK) (o_a tq11) M7, oM g tq11, xW g adX (adN 0) (adT 0) (o_a tY) X2, vW g adN N, vW g adT T3, gW L kd nu aa, oV g tY, pW g LR so rn ri rl, oM g tK] := hW
  obtain ⟨he13, hf⟩ := q_cs hf; have he13 := of_decide_eq_true he13
  refine lv_icmp_eq (tgt := 1948) hx hb dL_law_1756 (by decide) (fun _ => ?_) (fun hne => absurd he13 hne)
  exact kk adN tY tK tq11 X2 N T3 L kd nu aa LR so rn ri rl M7 _ _ _ _ hf (b_perms (Bs' := [xW g adX (adN 0) (adT 0) (o_a tY) X2, vW g adN N, vW g adT T3, oV g tY, gW L kd nu aa, pW g LR so rn ri rl, mW g adM (o_a tK) (o_a tq11) M7, oM g tK, oM g tq11]) hW (b_ord [2, 3, 4, 6, 5, 7, 0, 8, 1] 9 rfl rfl rfl)) (by (have := lw_k 45 tQ; have := lw_k 842 tQ; omega)) (by (have := lw_k 45 tQ; have := lw_k 842 tQ; omega))
def lf_48 (fu : Nat) (X : BC) (N : BC) (T : BC) (Yo : Option BC) (L : List Nat) (kd : Nat → Nat) (nu : Nat → Int32) (aa : Nat → Int32) (LR : List Nat) (so : Nat → Nat) (rn : Nat → Nat) (ri : Nat → Nat → Int32) (rl : Nat → Nat → Int64) (M : BC) (Ko : Option BC) (To : Option BC) (x1 : Int32) (post : lwPT) : Prop :=
 q_b3 (f_X0_recovers fu X N T L kd nu aa x1) fun (r1 : Int32) (X2 : BC) (T3 : BC) =>
 q_b3 (f_X3_recovers fu M To x1) fun (r6 : Int32) (M7 : BC) (TO8 : Option BC) =>
 q_ck (decide (r1 = r6)) (post X2 N T3 Yo L kd nu aa LR so rn ri rl M7 Ko TO8)
set_option maxHeartbeats 4000000 in
set_option maxRecDepth 100000 in
theorem lc_48 {p : Program} {l : Launch} {e : Env} {s : State} {m : MethodId} {below : List Frame} {meth : Method} {c : Code} {H : Heap} {locs : List Loc} {cells slots b len n : Nat} {Q : State → Prop} {xs : Nat → Int32} {adX adT adM adN : Nat → Nat} {tY tK tQ : Option ((Nat → Nat) × BC)} {ls : Array Slot} {D : va_G} {g : Nat → ClassId} {A : Nat → Prop} {X N T : BC} {L : List Nat} {kd : Nat → Nat} {nu aa : Nat → Int32} {LR : List Nat} {so rn : Nat → Nat} {ri : Nat → Nat → Int32} {rl : Nat → Nat → Int64} {M : BC} {fu : Nat} {post : lwPT} (C : lwC p l s m b c A ls adX adM len n xs) (hcs : cells + 10000 ≤ 1200384 ∧ slots + 80000 ≤ 5497258) (hW : bW D g A s H locs (lwB g adX adN adT tY adM tK tQ X N T L kd nu aa LR so rn ri rl M)) (hf : lf_48 fu X N T (tY.map Prod.snd) L kd nu aa LR so rn ri rl M (tK.map Prod.snd) (tQ.map Prod.snd) (xs (n + 1)) post) (kk : lwK p l e s m b below meth c D g A adX adT adM ls Q cells slots post) : W p l e room_1 s m #[.ref b] below meth c H locs cells slots Q (F0 m 1761 ls []) := by
  have C0 := C
  obtain ⟨hx, hb, hml, hown, hts, hst, -, -, -, -, -, hl⟩ := C0
  rw [lf_48] at hf
  have hW : bW D g A s H locs [xW g adX (adN 0) (adT 0) (o_a tY) X, vW g adN N, vW g adT T, oV g tY, gW L kd nu aa, pW g LR so rn ri rl, mW g adM (o_a tK) (o_a tQ) M, oM g tK, oM g tQ] := hW
  refine lv_aload_n hx hb dL_law_1761 rfl (lv_at hl 1 rfl) ?_
  refine lw_arg C hW 1 (K := 1) rfl (by decide) dL_law_1762 dL_law_1763 dL_law_1764 dL_law_1765 dL_law_1766 ?_
  obtain ⟨r1, X2, T3, hc4, hf⟩ := q_b3s hf
  have hp5 : List.Perm (α := va_W) [xW g adX (adN 0) (adT 0) (o_a tY) X, vW g adN N, vW g adT T, oV g tY, gW L kd nu aa, pW g LR so rn ri rl, mW g adM (o_a tK) (o_a tQ) M, oM g tK, oM g tQ] ([xW g adX (adN 0) (adT 0) (o_a tY) X, vW g adN N, vW g adT T, gW L kd nu aa] ++ [oV g tY, pW g LR so rn ri rl, mW g adM (o_a tK) (o_a tQ) M, oM g tK, oM g tQ]) := b_perm [0, 1, 2, 4] [3, 5, 6, 7, 8] 9 rfl rfl rfl rfl
  refine b_call0 ⟨rfl, rfl⟩ (va_runV (As := [.int (xs (n + 1))]) (rest := []) ⟨hx, hb, hml, hown, hts⟩ (m_X0_recovers l D g H.size adX (o_a tY) adN adT fu X N T L kd nu aa (xs (n + 1)) r1 X2 T3 hc4) (cwV 1 hts (lw_V q1388 q1389 q1390 q76 q1391) rfl rfl rfl (by decide +kernel) ⟨Nat.le_of_ble_eq_true rfl, Nat.le_of_ble_eq_true rfl⟩) (b_preV (pp := 0) (q := 0) hW hp5 rfl xW_0 rfl) rfl rfl hl.1 rfl (lv_room (Nat.le_of_ble_eq_true rfl)) dL_law_1767 ⟨(show cells + 0 ≤ 1200384 from by (omega)), (show slots + 0 ≤ 5497258 from by (omega))⟩) hW hp5 (fun _ _ H locs hW => ?_)
  have hW : bW D g A s H locs [xW g adX (adN 0) (adT 0) (o_a tY) X2, vW g adN N, vW g adT T3, gW L kd nu aa, oV g tY, pW g LR so rn ri rl, mW g adM (o_a tK) (o_a tQ) M, oM g tK, oM g tQ] := hW
  refine lv_aload_n hx hb dL_law_1770 rfl (lv_at hl 2 rfl) ?_
  refine lw_arg C hW 1 (K := 1) rfl (by decide) dL_law_1771 dL_law_1772 dL_law_1773 dL_law_1774 dL_law_1775 ?_
  obtain ⟨r6, M7, TO8, hc9, hf⟩ := q_b3s hf
  have hp10 : List.Perm (α := va_W) [xW g adX (adN 0) (adT 0) (o_a tY) X2, vW g adN N, vW g adT T3, gW L kd nu aa, oV g tY, pW g LR so rn ri rl, mW g adM (o_a tK) (o_a tQ) M, oM g tK, oM g tQ] ([mW g adM (o_a tK) (o_a tQ) M, oM g tQ] ++ [xW g adX (adN 0) (adT 0) (o_a tY) X2, vW g adN N, vW g adT T3, gW L kd nu aa, oV g tY, pW g LR so rn ri rl, oM g tK]) := b_perm [6, 8] [0, 1, 2, 3, 4, 5, 7] 9 rfl rfl rfl rfl
  refine b_call (va_runV (As := [.int (xs (n + 1))]) (rest := [.int r1]) ⟨hx, hb, hml, hown, hts⟩ (m_X3_recovers l D g H.size adM (o_a tK) tQ fu M (xs (n + 1)) r6 M7 TO8 hc9) (cwV 1 hts (lw_V q1986 q1987 q1988 q79 q1989) rfl rfl rfl (by decide +kernel) ⟨Nat.le_of_ble_eq_true rfl, Nat.le_of_ble_eq_true rfl⟩) (b_preV (pp := 6) (q := 0) hW hp10 rfl mW_0 rfl) rfl rfl hl.1 rfl (lv_room (Nat.le_of_ble_eq_true rfl)) dL_law_1776 ⟨(show cells + (o_k 45 tQ) ≤ 1200384 from by (have := lw_k 45 tQ; have := lw_k 842 tQ; omega)), (show slots + (o_k 842 tQ) ≤ 5497258 from by (have := lw_k 45 tQ; have := lw_k 842 tQ; omega))⟩) hW hp10 (fun tq11 htq12 H locs hW => ?_)
  subst htq12
  refine W.cs (cells' := (cells + (o_k 45 tQ))) (slots' := (slots + (o_k 842 tQ))) rfl rfl ?_
  have hW : bW D g A s H locs [mW g adM (o_a tK) (o_a tq11) M7, oM g tq11, xW g adX (adN 0) (adT 0) (o_a tY) X2, vW g adN N, vW g adT T3, gW L kd nu aa, oV g tY, pW g LR so rn ri rl, oM g tK] := hW
  obtain ⟨he13, hf⟩ := q_cs hf; have he13 := of_decide_eq_true he13
  refine lv_icmp_eq (tgt := 1948) hx hb dL_law_1779 (by decide) (fun _ => ?_) (fun hne => absurd he13 hne)
  exact kk adN tY tK tq11 X2 N T3 L kd nu aa LR so rn ri rl M7 _ _ _ _ hf (b_perms (Bs' := [xW g adX (adN 0) (adT 0) (o_a tY) X2, vW g adN N, vW g adT T3, oV g tY, gW L kd nu aa, pW g LR so rn ri rl, mW g adM (o_a tK) (o_a tq11) M7, oM g tK, oM g tq11]) hW (b_ord [2, 3, 4, 6, 5, 7, 0, 8, 1] 9 rfl rfl rfl)) (by (have := lw_k 45 tQ; have := lw_k 842 tQ; omega)) (by (have := lw_k 45 tQ; have := lw_k 842 tQ; omega))
def lf_49 (fu : Nat) (X : BC) (N : BC) (T : BC) (Yo : Option BC) (L : List Nat) (kd : Nat → Nat) (nu : Nat → Int32) (aa : Nat → Int32) (LR : List Nat) (so : Nat → Nat) (rn : Nat → Nat) (ri : Nat → Nat → Int32) (rl : Nat → Nat → Int64) (M : BC) (Ko : Option BC) (To : Option BC) (x1 : Int32) (x2 : Int32) (post : lwPT) : Prop :=
 q_b3 (f_X0_dearest fu X N T L kd nu aa x1 x2) fun (r1 : Int32) (X2 : BC) (T3 : BC) =>
 q_b3 (f_X3_dearest fu M To x1 x2) fun (r6 : Int32) (M7 : BC) (TO8 : Option BC) =>
 q_ck (decide (r1 = r6)) (post X2 N T3 Yo L kd nu aa LR so rn ri rl M7 Ko TO8)
set_option maxHeartbeats 4000000 in
set_option maxRecDepth 100000 in
theorem lc_49 {p : Program} {l : Launch} {e : Env} {s : State} {m : MethodId} {below : List Frame} {meth : Method} {c : Code} {H : Heap} {locs : List Loc} {cells slots b len n : Nat} {Q : State → Prop} {xs : Nat → Int32} {adX adT adM adN : Nat → Nat} {tY tK tQ : Option ((Nat → Nat) × BC)} {ls : Array Slot} {D : va_G} {g : Nat → ClassId} {A : Nat → Prop} {X N T : BC} {L : List Nat} {kd : Nat → Nat} {nu aa : Nat → Int32} {LR : List Nat} {so rn : Nat → Nat} {ri : Nat → Nat → Int32} {rl : Nat → Nat → Int64} {M : BC} {fu : Nat} {post : lwPT} (C : lwC p l s m b c A ls adX adM len n xs) (hcs : cells + 10000 ≤ 1200384 ∧ slots + 80000 ≤ 5497258) (hW : bW D g A s H locs (lwB g adX adN adT tY adM tK tQ X N T L kd nu aa LR so rn ri rl M)) (hf : lf_49 fu X N T (tY.map Prod.snd) L kd nu aa LR so rn ri rl M (tK.map Prod.snd) (tQ.map Prod.snd) (xs (n + 1)) (xs (n + 2)) post) (kk : lwK p l e s m b below meth c D g A adX adT adM ls Q cells slots post) : W p l e room_1 s m #[.ref b] below meth c H locs cells slots Q (F0 m 1784 ls []) := by
  have C0 := C
  obtain ⟨hx, hb, hml, hown, hts, hst, -, -, -, -, -, hl⟩ := C0
  rw [lf_49] at hf
  have hW : bW D g A s H locs [xW g adX (adN 0) (adT 0) (o_a tY) X, vW g adN N, vW g adT T, oV g tY, gW L kd nu aa, pW g LR so rn ri rl, mW g adM (o_a tK) (o_a tQ) M, oM g tK, oM g tQ] := hW
  refine lv_aload_n hx hb dL_law_1784 rfl (lv_at hl 1 rfl) ?_
  refine lw_arg C hW 1 (K := 1) rfl (by decide) dL_law_1785 dL_law_1786 dL_law_1787 dL_law_1788 dL_law_1789 ?_
  refine lw_arg C hW 2 (K := 2) rfl (by decide) dL_law_1790 dL_law_1791 dL_law_1792 dL_law_1793 dL_law_1794 ?_
  obtain ⟨r1, X2, T3, hc4, hf⟩ := q_b3s hf
  have hp5 : List.Perm (α := va_W) [xW g adX (adN 0) (adT 0) (o_a tY) X, vW g adN N, vW g adT T, oV g tY, gW L kd nu aa, pW g LR so rn ri rl, mW g adM (o_a tK) (o_a tQ) M, oM g tK, oM g tQ] ([xW g adX (adN 0) (adT 0) (o_a tY) X, vW g adN N, vW g adT T, gW L kd nu aa] ++ [oV g tY, pW g LR so rn ri rl, mW g adM (o_a tK) (o_a tQ) M, oM g tK, oM g tQ]) := b_perm [0, 1, 2, 4] [3, 5, 6, 7, 8] 9 rfl rfl rfl rfl
  refine b_call0 ⟨rfl, rfl⟩ (va_runV (As := [.int (xs (n + 1)), .int (xs (n + 2))]) (rest := []) ⟨hx, hb, hml, hown, hts⟩ (m_X0_dearest l D g H.size adX (o_a tY) adN adT fu X N T L kd nu aa (xs (n + 1)) (xs (n + 2)) r1 X2 T3 hc4) (cwV 2 hts (lw_V q1393 q1394 q1395 q76 q1396) rfl rfl rfl (by decide +kernel) ⟨Nat.le_of_ble_eq_true rfl, Nat.le_of_ble_eq_true rfl⟩) (b_preV (pp := 0) (q := 0) hW hp5 rfl xW_0 rfl) rfl rfl hl.1 rfl (lv_room (Nat.le_of_ble_eq_true rfl)) dL_law_1795 ⟨(show cells + 0 ≤ 1200384 from by (omega)), (show slots + 0 ≤ 5497258 from by (omega))⟩) hW hp5 (fun _ _ H locs hW => ?_)
  have hW : bW D g A s H locs [xW g adX (adN 0) (adT 0) (o_a tY) X2, vW g adN N, vW g adT T3, gW L kd nu aa, oV g tY, pW g LR so rn ri rl, mW g adM (o_a tK) (o_a tQ) M, oM g tK, oM g tQ] := hW
  refine lv_aload_n hx hb dL_law_1798 rfl (lv_at hl 2 rfl) ?_
  refine lw_arg C hW 1 (K := 1) rfl (by decide) dL_law_1799 dL_law_1800 dL_law_1801 dL_law_1802 dL_law_1803 ?_
  refine lw_arg C hW 2 (K := 2) rfl (by decide) dL_law_1804 dL_law_1805 dL_law_1806 dL_law_1807 dL_law_1808 ?_
  obtain ⟨r6, M7, TO8, hc9, hf⟩ := q_b3s hf
  have hp10 : List.Perm (α := va_W) [xW g adX (adN 0) (adT 0) (o_a tY) X2, vW g adN N, vW g adT T3, gW L kd nu aa, oV g tY, pW g LR so rn ri rl, mW g adM (o_a tK) (o_a tQ) M, oM g tK, oM g tQ] ([mW g adM (o_a tK) (o_a tQ) M, oM g tQ] ++ [xW g adX (adN 0) (adT 0) (o_a tY) X2, vW g adN N, vW g adT T3, gW L kd nu aa, oV g tY, pW g LR so rn ri rl, oM g tK]) := b_perm [6, 8] [0, 1, 2, 3, 4, 5, 7] 9 rfl rfl rfl rfl
  refine b_call (va_runV (As := [.int (xs (n + 1)), .int (xs (n + 2))]) (rest := [.int r1]) ⟨hx, hb, hml, hown, hts⟩ (m_X3_dearest l D g H.size adM (o_a tK) tQ fu M (xs (n + 1)) (xs (n + 2)) r6 M7 TO8 hc9) (cwV 2 hts (lw_V q1990 q1991 q1992 q79 q1993) rfl rfl rfl (by decide +kernel) ⟨Nat.le_of_ble_eq_true rfl, Nat.le_of_ble_eq_true rfl⟩) (b_preV (pp := 6) (q := 0) hW hp10 rfl mW_0 rfl) rfl rfl hl.1 rfl (lv_room (Nat.le_of_ble_eq_true rfl)) dL_law_1809 ⟨(show cells + (o_k 45 tQ) ≤ 1200384 from by (have := lw_k 45 tQ; have := lw_k 842 tQ; omega)), (show slots + (o_k 842 tQ) ≤ 5497258 from by (have := lw_k 45 tQ; have := lw_k 842 tQ; omega))⟩) hW hp10 (fun tq11 htq12 H locs hW => ?_)
  subst htq12
  refine W.cs (cells' := (cells + (o_k 45 tQ))) (slots' := (slots + (o_k 842 tQ))) rfl rfl ?_
  have hW : bW D g A s H locs [mW g adM (o_a tK) (o_a tq11) M7, oM g tq11, xW g adX (adN 0) (adT 0) (o_a tY) X2, vW g adN N, vW g adT T3, gW L kd nu aa, oV g tY, pW g LR so rn ri rl, oM g tK] := hW
  obtain ⟨he13, hf⟩ := q_cs hf; have he13 := of_decide_eq_true he13
  refine lv_icmp_eq (tgt := 1948) hx hb dL_law_1812 (by decide) (fun _ => ?_) (fun hne => absurd he13 hne)
  exact kk adN tY tK tq11 X2 N T3 L kd nu aa LR so rn ri rl M7 _ _ _ _ hf (b_perms (Bs' := [xW g adX (adN 0) (adT 0) (o_a tY) X2, vW g adN N, vW g adT T3, oV g tY, gW L kd nu aa, pW g LR so rn ri rl, mW g adM (o_a tK) (o_a tq11) M7, oM g tK, oM g tq11]) hW (b_ord [2, 3, 4, 6, 5, 7, 0, 8, 1] 9 rfl rfl rfl)) (by (have := lw_k 45 tQ; have := lw_k 842 tQ; omega)) (by (have := lw_k 45 tQ; have := lw_k 842 tQ; omega))
def lf_50 (fu : Nat) (X : BC) (N : BC) (T : BC) (Yo : Option BC) (L : List Nat) (kd : Nat → Nat) (nu : Nat → Int32) (aa : Nat → Int32) (LR : List Nat) (so : Nat → Nat) (rn : Nat → Nat) (ri : Nat → Nat → Int32) (rl : Nat → Nat → Int64) (M : BC) (Ko : Option BC) (To : Option BC) (post : lwPT) : Prop :=
 q_b2 (f_X0_year fu X N L kd nu aa) fun (r1 : Int32) (N2 : BC) =>
 q_b2 (f_X3_year fu M) fun (r5 : Int32) (M6 : BC) =>
 q_ck (decide (r1 = r5)) (post X N2 T Yo L kd nu aa LR so rn ri rl M6 Ko To)
set_option maxHeartbeats 4000000 in
set_option maxRecDepth 100000 in
theorem lc_50 {p : Program} {l : Launch} {e : Env} {s : State} {m : MethodId} {below : List Frame} {meth : Method} {c : Code} {H : Heap} {locs : List Loc} {cells slots b len n : Nat} {Q : State → Prop} {xs : Nat → Int32} {adX adT adM adN : Nat → Nat} {tY tK tQ : Option ((Nat → Nat) × BC)} {ls : Array Slot} {D : va_G} {g : Nat → ClassId} {A : Nat → Prop} {X N T : BC} {L : List Nat} {kd : Nat → Nat} {nu aa : Nat → Int32} {LR : List Nat} {so rn : Nat → Nat} {ri : Nat → Nat → Int32} {rl : Nat → Nat → Int64} {M : BC} {fu : Nat} {post : lwPT} (C : lwC p l s m b c A ls adX adM len n xs) (hcs : cells + 10000 ≤ 1200384 ∧ slots + 80000 ≤ 5497258) (hW : bW D g A s H locs (lwB g adX adN adT tY adM tK tQ X N T L kd nu aa LR so rn ri rl M)) (hf : lf_50 fu X N T (tY.map Prod.snd) L kd nu aa LR so rn ri rl M (tK.map Prod.snd) (tQ.map Prod.snd) post) (kk : lwK p l e s m b below meth c D g A adX adT adM ls Q cells slots post) : W p l e room_1 s m #[.ref b] below meth c H locs cells slots Q (F0 m 1817 ls []) := by
  have C0 := C
  obtain ⟨hx, hb, hml, hown, hts, hst, -, -, -, -, -, hl⟩ := C0
  rw [lf_50] at hf
  have hW : bW D g A s H locs [xW g adX (adN 0) (adT 0) (o_a tY) X, vW g adN N, vW g adT T, oV g tY, gW L kd nu aa, pW g LR so rn ri rl, mW g adM (o_a tK) (o_a tQ) M, oM g tK, oM g tQ] := hW
  refine lv_aload_n hx hb dL_law_1817 rfl (lv_at hl 1 rfl) ?_
  obtain ⟨r1, N2, hc3, hf⟩ := q_b2s hf
  have hp4 : List.Perm (α := va_W) [xW g adX (adN 0) (adT 0) (o_a tY) X, vW g adN N, vW g adT T, oV g tY, gW L kd nu aa, pW g LR so rn ri rl, mW g adM (o_a tK) (o_a tQ) M, oM g tK, oM g tQ] ([xW g adX (adN 0) (adT 0) (o_a tY) X, vW g adN N, gW L kd nu aa] ++ [vW g adT T, oV g tY, pW g LR so rn ri rl, mW g adM (o_a tK) (o_a tQ) M, oM g tK, oM g tQ]) := b_perm [0, 1, 4] [2, 3, 5, 6, 7, 8] 9 rfl rfl rfl rfl
  refine b_call0 ⟨rfl, rfl⟩ (va_runV (As := []) (rest := []) ⟨hx, hb, hml, hown, hts⟩ (m_X0_year l D g H.size adX (o_a tY) adN adT fu X N L kd nu aa r1 N2 hc3) (cwV 0 hts (lw_V q1397 q1398 q1399 q76 q1400) rfl rfl rfl (by decide +kernel) ⟨Nat.le_of_ble_eq_true rfl, Nat.le_of_ble_eq_true rfl⟩) (b_preV (pp := 0) (q := 0) hW hp4 rfl xW_0 rfl) rfl rfl hl.1 rfl (lv_room (Nat.le_of_ble_eq_true rfl)) dL_law_1818 ⟨(show cells + 0 ≤ 1200384 from by (omega)), (show slots + 0 ≤ 5497258 from by (omega))⟩) hW hp4 (fun _ _ H locs hW => ?_)
  have hW : bW D g A s H locs [xW g adX (adN 0) (adT 0) (o_a tY) X, vW g adN N2, gW L kd nu aa, vW g adT T, oV g tY, pW g LR so rn ri rl, mW g adM (o_a tK) (o_a tQ) M, oM g tK, oM g tQ] := hW
  refine lv_aload_n hx hb dL_law_1821 rfl (lv_at hl 2 rfl) ?_
  obtain ⟨r5, M6, hc7, hf⟩ := q_b2s hf
  have hp8 : List.Perm (α := va_W) [xW g adX (adN 0) (adT 0) (o_a tY) X, vW g adN N2, gW L kd nu aa, vW g adT T, oV g tY, pW g LR so rn ri rl, mW g adM (o_a tK) (o_a tQ) M, oM g tK, oM g tQ] ([mW g adM (o_a tK) (o_a tQ) M] ++ [xW g adX (adN 0) (adT 0) (o_a tY) X, vW g adN N2, gW L kd nu aa, vW g adT T, oV g tY, pW g LR so rn ri rl, oM g tK, oM g tQ]) := b_perm [6] [0, 1, 2, 3, 4, 5, 7, 8] 9 rfl rfl rfl rfl
  refine b_call0 ⟨rfl, rfl⟩ (va_runV (As := []) (rest := [.int r1]) ⟨hx, hb, hml, hown, hts⟩ (m_X3_year l D g H.size adM (o_a tK) (o_a tQ) fu M r5 M6 hc7) (cwV 0 hts (lw_V q1994 q1995 q1996 q79 q1997) rfl rfl rfl (by decide +kernel) ⟨Nat.le_of_ble_eq_true rfl, Nat.le_of_ble_eq_true rfl⟩) (b_preV (pp := 6) (q := 0) hW hp8 rfl mW_0 rfl) rfl rfl hl.1 rfl (lv_room (Nat.le_of_ble_eq_true rfl)) dL_law_1822 ⟨(show cells + 0 ≤ 1200384 from by (omega)), (show slots + 0 ≤ 5497258 from by (omega))⟩) hW hp8 (fun _ _ H locs hW => ?_)
  have hW : bW D g A s H locs [mW g adM (o_a tK) (o_a tQ) M6, xW g adX (adN 0) (adT 0) (o_a tY) X, vW g adN N2, gW L kd nu aa, vW g adT T, oV g tY, pW g LR so rn ri rl, oM g tK, oM g tQ] := hW
  obtain ⟨he9, hf⟩ := q_cs hf; have he9 := of_decide_eq_true he9
  refine lv_icmp_eq (tgt := 1948) hx hb dL_law_1825 (by decide) (fun _ => ?_) (fun hne => absurd he9 hne)
  exact kk adN tY tK tQ X N2 T L kd nu aa LR so rn ri rl M6 _ _ _ _ hf (b_perms (Bs' := [xW g adX (adN 0) (adT 0) (o_a tY) X, vW g adN N2, vW g adT T, oV g tY, gW L kd nu aa, pW g LR so rn ri rl, mW g adM (o_a tK) (o_a tQ) M6, oM g tK, oM g tQ]) hW (b_ord [1, 2, 4, 5, 3, 6, 0, 7, 8] 9 rfl rfl rfl)) (by (omega)) (by (omega))
def lf_51 (fu : Nat) (X : BC) (N : BC) (T : BC) (Yo : Option BC) (L : List Nat) (kd : Nat → Nat) (nu : Nat → Int32) (aa : Nat → Int32) (LR : List Nat) (so : Nat → Nat) (rn : Nat → Nat) (ri : Nat → Nat → Int32) (rl : Nat → Nat → Int64) (M : BC) (Ko : Option BC) (To : Option BC) (x1 : Int32) (post : lwPT) : Prop :=
 q_b3 (f_X0_goes fu X N L kd nu aa x1) fun (r1 : Int32) (X2 : BC) (N3 : BC) =>
 q_b2 (f_X3_goes fu M x1) fun (r6 : Int32) (M7 : BC) =>
 q_ck (decide (r1 = r6)) (post X2 N3 T Yo L kd nu aa LR so rn ri rl M7 Ko To)
set_option maxHeartbeats 4000000 in
set_option maxRecDepth 100000 in
theorem lc_51 {p : Program} {l : Launch} {e : Env} {s : State} {m : MethodId} {below : List Frame} {meth : Method} {c : Code} {H : Heap} {locs : List Loc} {cells slots b len n : Nat} {Q : State → Prop} {xs : Nat → Int32} {adX adT adM adN : Nat → Nat} {tY tK tQ : Option ((Nat → Nat) × BC)} {ls : Array Slot} {D : va_G} {g : Nat → ClassId} {A : Nat → Prop} {X N T : BC} {L : List Nat} {kd : Nat → Nat} {nu aa : Nat → Int32} {LR : List Nat} {so rn : Nat → Nat} {ri : Nat → Nat → Int32} {rl : Nat → Nat → Int64} {M : BC} {fu : Nat} {post : lwPT} (C : lwC p l s m b c A ls adX adM len n xs) (hcs : cells + 10000 ≤ 1200384 ∧ slots + 80000 ≤ 5497258) (hW : bW D g A s H locs (lwB g adX adN adT tY adM tK tQ X N T L kd nu aa LR so rn ri rl M)) (hf : lf_51 fu X N T (tY.map Prod.snd) L kd nu aa LR so rn ri rl M (tK.map Prod.snd) (tQ.map Prod.snd) (xs (n + 1)) post) (kk : lwK p l e s m b below meth c D g A adX adT adM ls Q cells slots post) : W p l e room_1 s m #[.ref b] below meth c H locs cells slots Q (F0 m 1830 ls []) := by
  have C0 := C
  obtain ⟨hx, hb, hml, hown, hts, hst, -, -, -, -, -, hl⟩ := C0
  rw [lf_51] at hf
  have hW : bW D g A s H locs [xW g adX (adN 0) (adT 0) (o_a tY) X, vW g adN N, vW g adT T, oV g tY, gW L kd nu aa, pW g LR so rn ri rl, mW g adM (o_a tK) (o_a tQ) M, oM g tK, oM g tQ] := hW
  refine lv_aload_n hx hb dL_law_1830 rfl (lv_at hl 1 rfl) ?_
  refine lw_arg C hW 1 (K := 1) rfl (by decide) dL_law_1831 dL_law_1832 dL_law_1833 dL_law_1834 dL_law_1835 ?_
  obtain ⟨r1, X2, N3, hc4, hf⟩ := q_b3s hf
  have hp5 : List.Perm (α := va_W) [xW g adX (adN 0) (adT 0) (o_a tY) X, vW g adN N, vW g adT T, oV g tY, gW L kd nu aa, pW g LR so rn ri rl, mW g adM (o_a tK) (o_a tQ) M, oM g tK, oM g tQ] ([xW g adX (adN 0) (adT 0) (o_a tY) X, vW g adN N, gW L kd nu aa] ++ [vW g adT T, oV g tY, pW g LR so rn ri rl, mW g adM (o_a tK) (o_a tQ) M, oM g tK, oM g tQ]) := b_perm [0, 1, 4] [2, 3, 5, 6, 7, 8] 9 rfl rfl rfl rfl
  refine b_call0 ⟨rfl, rfl⟩ (va_runV (As := [.int (xs (n + 1))]) (rest := []) ⟨hx, hb, hml, hown, hts⟩ (m_X0_goes l D g H.size adX (o_a tY) adN adT fu X N L kd nu aa (xs (n + 1)) r1 X2 N3 hc4) (cwV 1 hts (lw_V q1405 q1406 q1407 q76 q1408) rfl rfl rfl (by decide +kernel) ⟨Nat.le_of_ble_eq_true rfl, Nat.le_of_ble_eq_true rfl⟩) (b_preV (pp := 0) (q := 0) hW hp5 rfl xW_0 rfl) rfl rfl hl.1 rfl (lv_room (Nat.le_of_ble_eq_true rfl)) dL_law_1836 ⟨(show cells + 0 ≤ 1200384 from by (omega)), (show slots + 0 ≤ 5497258 from by (omega))⟩) hW hp5 (fun _ _ H locs hW => ?_)
  have hW : bW D g A s H locs [xW g adX (adN 0) (adT 0) (o_a tY) X2, vW g adN N3, gW L kd nu aa, vW g adT T, oV g tY, pW g LR so rn ri rl, mW g adM (o_a tK) (o_a tQ) M, oM g tK, oM g tQ] := hW
  refine lv_aload_n hx hb dL_law_1839 rfl (lv_at hl 2 rfl) ?_
  refine lw_arg C hW 1 (K := 1) rfl (by decide) dL_law_1840 dL_law_1841 dL_law_1842 dL_law_1843 dL_law_1844 ?_
  obtain ⟨r6, M7, hc8, hf⟩ := q_b2s hf
  have hp9 : List.Perm (α := va_W) [xW g adX (adN 0) (adT 0) (o_a tY) X2, vW g adN N3, gW L kd nu aa, vW g adT T, oV g tY, pW g LR so rn ri rl, mW g adM (o_a tK) (o_a tQ) M, oM g tK, oM g tQ] ([mW g adM (o_a tK) (o_a tQ) M] ++ [xW g adX (adN 0) (adT 0) (o_a tY) X2, vW g adN N3, gW L kd nu aa, vW g adT T, oV g tY, pW g LR so rn ri rl, oM g tK, oM g tQ]) := b_perm [6] [0, 1, 2, 3, 4, 5, 7, 8] 9 rfl rfl rfl rfl
  refine b_call0 ⟨rfl, rfl⟩ (va_runV (As := [.int (xs (n + 1))]) (rest := [.int r1]) ⟨hx, hb, hml, hown, hts⟩ (m_X3_goes l D g H.size adM (o_a tK) (o_a tQ) fu M (xs (n + 1)) r6 M7 hc8) (cwV 1 hts (lw_V q1998 q1999 q2000 q79 q2001) rfl rfl rfl (by decide +kernel) ⟨Nat.le_of_ble_eq_true rfl, Nat.le_of_ble_eq_true rfl⟩) (b_preV (pp := 6) (q := 0) hW hp9 rfl mW_0 rfl) rfl rfl hl.1 rfl (lv_room (Nat.le_of_ble_eq_true rfl)) dL_law_1845 ⟨(show cells + 0 ≤ 1200384 from by (omega)), (show slots + 0 ≤ 5497258 from by (omega))⟩) hW hp9 (fun _ _ H locs hW => ?_)
  have hW : bW D g A s H locs [mW g adM (o_a tK) (o_a tQ) M7, xW g adX (adN 0) (adT 0) (o_a tY) X2, vW g adN N3, gW L kd nu aa, vW g adT T, oV g tY, pW g LR so rn ri rl, oM g tK, oM g tQ] := hW
  obtain ⟨he10, hf⟩ := q_cs hf; have he10 := of_decide_eq_true he10
  refine lv_icmp_eq (tgt := 1948) hx hb dL_law_1848 (by decide) (fun _ => ?_) (fun hne => absurd he10 hne)
  exact kk adN tY tK tQ X2 N3 T L kd nu aa LR so rn ri rl M7 _ _ _ _ hf (b_perms (Bs' := [xW g adX (adN 0) (adT 0) (o_a tY) X2, vW g adN N3, vW g adT T, oV g tY, gW L kd nu aa, pW g LR so rn ri rl, mW g adM (o_a tK) (o_a tQ) M7, oM g tK, oM g tQ]) hW (b_ord [1, 2, 4, 5, 3, 6, 0, 7, 8] 9 rfl rfl rfl)) (by (omega)) (by (omega))
def lf_52 (fu : Nat) (X : BC) (N : BC) (T : BC) (Yo : Option BC) (L : List Nat) (kd : Nat → Nat) (nu : Nat → Int32) (aa : Nat → Int32) (LR : List Nat) (so : Nat → Nat) (rn : Nat → Nat) (ri : Nat → Nat → Int32) (rl : Nat → Nat → Int64) (M : BC) (Ko : Option BC) (To : Option BC) (x1 : Int32) (post : lwPT) : Prop :=
 q_b3 (f_X0_post fu X N T L kd nu aa x1) fun (r1 : Int32) (X2 : BC) (N3 : BC) =>
 q_b2 (f_X3_post fu M x1) fun (r6 : Int32) (M7 : BC) =>
 q_ck (decide (r1 = r6)) (post X2 N3 T Yo L kd nu aa LR so rn ri rl M7 Ko To)
set_option maxHeartbeats 4000000 in
set_option maxRecDepth 100000 in
theorem lc_52 {p : Program} {l : Launch} {e : Env} {s : State} {m : MethodId} {below : List Frame} {meth : Method} {c : Code} {H : Heap} {locs : List Loc} {cells slots b len n : Nat} {Q : State → Prop} {xs : Nat → Int32} {adX adT adM adN : Nat → Nat} {tY tK tQ : Option ((Nat → Nat) × BC)} {ls : Array Slot} {D : va_G} {g : Nat → ClassId} {A : Nat → Prop} {X N T : BC} {L : List Nat} {kd : Nat → Nat} {nu aa : Nat → Int32} {LR : List Nat} {so rn : Nat → Nat} {ri : Nat → Nat → Int32} {rl : Nat → Nat → Int64} {M : BC} {fu : Nat} {post : lwPT} (C : lwC p l s m b c A ls adX adM len n xs) (hcs : cells + 10000 ≤ 1200384 ∧ slots + 80000 ≤ 5497258) (hW : bW D g A s H locs (lwB g adX adN adT tY adM tK tQ X N T L kd nu aa LR so rn ri rl M)) (hf : lf_52 fu X N T (tY.map Prod.snd) L kd nu aa LR so rn ri rl M (tK.map Prod.snd) (tQ.map Prod.snd) (xs (n + 1)) post) (kk : lwK p l e s m b below meth c D g A adX adT adM ls Q cells slots post) : W p l e room_1 s m #[.ref b] below meth c H locs cells slots Q (F0 m 1853 ls []) := by
  have C0 := C
  obtain ⟨hx, hb, hml, hown, hts, hst, -, -, -, -, -, hl⟩ := C0
  rw [lf_52] at hf
  have hW : bW D g A s H locs [xW g adX (adN 0) (adT 0) (o_a tY) X, vW g adN N, vW g adT T, oV g tY, gW L kd nu aa, pW g LR so rn ri rl, mW g adM (o_a tK) (o_a tQ) M, oM g tK, oM g tQ] := hW
  refine lv_aload_n hx hb dL_law_1853 rfl (lv_at hl 1 rfl) ?_
  refine lw_arg C hW 1 (K := 1) rfl (by decide) dL_law_1854 dL_law_1855 dL_law_1856 dL_law_1857 dL_law_1858 ?_
  obtain ⟨r1, X2, N3, hc4, hf⟩ := q_b3s hf
  have hp5 : List.Perm (α := va_W) [xW g adX (adN 0) (adT 0) (o_a tY) X, vW g adN N, vW g adT T, oV g tY, gW L kd nu aa, pW g LR so rn ri rl, mW g adM (o_a tK) (o_a tQ) M, oM g tK, oM g tQ] ([xW g adX (adN 0) (adT 0) (o_a tY) X, vW g adN N, vW g adT T, gW L kd nu aa] ++ [oV g tY, pW g LR so rn ri rl, mW g adM (o_a tK) (o_a tQ) M, oM g tK, oM g tQ]) := b_perm [0, 1, 2, 4] [3, 5, 6, 7, 8] 9 rfl rfl rfl rfl
  refine b_call0 ⟨rfl, rfl⟩ (va_runV (As := [.int (xs (n + 1))]) (rest := []) ⟨hx, hb, hml, hown, hts⟩ (m_X0_post l D g H.size adX (o_a tY) adN adT fu X N T L kd nu aa (xs (n + 1)) r1 X2 N3 hc4) (cwV 1 hts (lw_V q1409 q1410 q1411 q76 q1412) rfl rfl rfl (by decide +kernel) ⟨Nat.le_of_ble_eq_true rfl, Nat.le_of_ble_eq_true rfl⟩) (b_preV (pp := 0) (q := 0) hW hp5 rfl xW_0 rfl) rfl rfl hl.1 rfl (lv_room (Nat.le_of_ble_eq_true rfl)) dL_law_1859 ⟨(show cells + 0 ≤ 1200384 from by (omega)), (show slots + 0 ≤ 5497258 from by (omega))⟩) hW hp5 (fun _ _ H locs hW => ?_)
  have hW : bW D g A s H locs [xW g adX (adN 0) (adT 0) (o_a tY) X2, vW g adN N3, vW g adT T, gW L kd nu aa, oV g tY, pW g LR so rn ri rl, mW g adM (o_a tK) (o_a tQ) M, oM g tK, oM g tQ] := hW
  refine lv_aload_n hx hb dL_law_1862 rfl (lv_at hl 2 rfl) ?_
  refine lw_arg C hW 1 (K := 1) rfl (by decide) dL_law_1863 dL_law_1864 dL_law_1865 dL_law_1866 dL_law_1867 ?_
  obtain ⟨r6, M7, hc8, hf⟩ := q_b2s hf
  have hp9 : List.Perm (α := va_W) [xW g adX (adN 0) (adT 0) (o_a tY) X2, vW g adN N3, vW g adT T, gW L kd nu aa, oV g tY, pW g LR so rn ri rl, mW g adM (o_a tK) (o_a tQ) M, oM g tK, oM g tQ] ([mW g adM (o_a tK) (o_a tQ) M] ++ [xW g adX (adN 0) (adT 0) (o_a tY) X2, vW g adN N3, vW g adT T, gW L kd nu aa, oV g tY, pW g LR so rn ri rl, oM g tK, oM g tQ]) := b_perm [6] [0, 1, 2, 3, 4, 5, 7, 8] 9 rfl rfl rfl rfl
  refine b_call0 ⟨rfl, rfl⟩ (va_runV (As := [.int (xs (n + 1))]) (rest := [.int r1]) ⟨hx, hb, hml, hown, hts⟩ (m_X3_post l D g H.size adM (o_a tK) (o_a tQ) fu M (xs (n + 1)) r6 M7 hc8) (cwV 1 hts (lw_V q2002 q2003 q2004 q79 q2005) rfl rfl rfl (by decide +kernel) ⟨Nat.le_of_ble_eq_true rfl, Nat.le_of_ble_eq_true rfl⟩) (b_preV (pp := 6) (q := 0) hW hp9 rfl mW_0 rfl) rfl rfl hl.1 rfl (lv_room (Nat.le_of_ble_eq_true rfl)) dL_law_1868 ⟨(show cells + 0 ≤ 1200384 from by (omega)), (show slots + 0 ≤ 5497258 from by (omega))⟩) hW hp9 (fun _ _ H locs hW => ?_)
  have hW : bW D g A s H locs [mW g adM (o_a tK) (o_a tQ) M7, xW g adX (adN 0) (adT 0) (o_a tY) X2, vW g adN N3, vW g adT T, gW L kd nu aa, oV g tY, pW g LR so rn ri rl, oM g tK, oM g tQ] := hW
  obtain ⟨he10, hf⟩ := q_cs hf; have he10 := of_decide_eq_true he10
  refine lv_icmp_eq (tgt := 1948) hx hb dL_law_1871 (by decide) (fun _ => ?_) (fun hne => absurd he10 hne)
  exact kk adN tY tK tQ X2 N3 T L kd nu aa LR so rn ri rl M7 _ _ _ _ hf (b_perms (Bs' := [xW g adX (adN 0) (adT 0) (o_a tY) X2, vW g adN N3, vW g adT T, oV g tY, gW L kd nu aa, pW g LR so rn ri rl, mW g adM (o_a tK) (o_a tQ) M7, oM g tK, oM g tQ]) hW (b_ord [1, 2, 3, 5, 4, 6, 0, 7, 8] 9 rfl rfl rfl)) (by (omega)) (by (omega))
def lf_53 (X : BC) (N : BC) (T : BC) (Yo : Option BC) (L : List Nat) (kd : Nat → Nat) (nu : Nat → Int32) (aa : Nat → Int32) (LR : List Nat) (so : Nat → Nat) (rn : Nat → Nat) (ri : Nat → Nat → Int32) (rl : Nat → Nat → Int64) (M : BC) (Ko : Option BC) (To : Option BC) (x1 : Int32) (post : lwPT) : Prop :=
 q_b2 (f_X0_seed X N x1) fun (r1 : Int32) (N2 : BC) =>
 q_b2 (f_X3_seed M x1) fun (r5 : Int32) (M6 : BC) =>
 q_ck (decide (r1 = r5)) (post X N2 T Yo L kd nu aa LR so rn ri rl M6 Ko To)
set_option maxHeartbeats 4000000 in
set_option maxRecDepth 100000 in
theorem lc_53 {p : Program} {l : Launch} {e : Env} {s : State} {m : MethodId} {below : List Frame} {meth : Method} {c : Code} {H : Heap} {locs : List Loc} {cells slots b len n : Nat} {Q : State → Prop} {xs : Nat → Int32} {adX adT adM adN : Nat → Nat} {tY tK tQ : Option ((Nat → Nat) × BC)} {ls : Array Slot} {D : va_G} {g : Nat → ClassId} {A : Nat → Prop} {X N T : BC} {L : List Nat} {kd : Nat → Nat} {nu aa : Nat → Int32} {LR : List Nat} {so rn : Nat → Nat} {ri : Nat → Nat → Int32} {rl : Nat → Nat → Int64} {M : BC} {fu : Nat} {post : lwPT} (C : lwC p l s m b c A ls adX adM len n xs) (hcs : cells + 10000 ≤ 1200384 ∧ slots + 80000 ≤ 5497258) (hW : bW D g A s H locs (lwB g adX adN adT tY adM tK tQ X N T L kd nu aa LR so rn ri rl M)) (hf : lf_53 X N T (tY.map Prod.snd) L kd nu aa LR so rn ri rl M (tK.map Prod.snd) (tQ.map Prod.snd) (xs (n + 1)) post) (kk : lwK p l e s m b below meth c D g A adX adT adM ls Q cells slots post) : W p l e room_1 s m #[.ref b] below meth c H locs cells slots Q (F0 m 1876 ls []) := by
  have C0 := C
  obtain ⟨hx, hb, hml, hown, hts, hst, -, -, -, -, -, hl⟩ := C0
  rw [lf_53] at hf
  have hW : bW D g A s H locs [xW g adX (adN 0) (adT 0) (o_a tY) X, vW g adN N, vW g adT T, oV g tY, gW L kd nu aa, pW g LR so rn ri rl, mW g adM (o_a tK) (o_a tQ) M, oM g tK, oM g tQ] := hW
  refine lv_aload_n hx hb dL_law_1876 rfl (lv_at hl 1 rfl) ?_
  refine lw_arg C hW 1 (K := 1) rfl (by decide) dL_law_1877 dL_law_1878 dL_law_1879 dL_law_1880 dL_law_1881 ?_
  obtain ⟨r1, N2, hc3, hf⟩ := q_b2s hf
  have hp4 : List.Perm (α := va_W) [xW g adX (adN 0) (adT 0) (o_a tY) X, vW g adN N, vW g adT T, oV g tY, gW L kd nu aa, pW g LR so rn ri rl, mW g adM (o_a tK) (o_a tQ) M, oM g tK, oM g tQ] ([xW g adX (adN 0) (adT 0) (o_a tY) X, vW g adN N] ++ [vW g adT T, oV g tY, gW L kd nu aa, pW g LR so rn ri rl, mW g adM (o_a tK) (o_a tQ) M, oM g tK, oM g tQ]) := b_perm [0, 1] [2, 3, 4, 5, 6, 7, 8] 9 rfl rfl rfl rfl
  refine b_call0 ⟨rfl, rfl⟩ (va_runV (As := [.int (xs (n + 1))]) (rest := []) ⟨hx, hb, hml, hown, hts⟩ (m_X0_seed l D g H.size adX (o_a tY) adN adT X N (xs (n + 1)) r1 N2 hc3) (cwV 1 hts (lw_V q1423 q1424 q1425 q76 q1426) rfl rfl rfl (by decide +kernel) ⟨Nat.le_of_ble_eq_true rfl, Nat.le_of_ble_eq_true rfl⟩) (b_preV (pp := 0) (q := 0) hW hp4 rfl xW_0 rfl) rfl rfl hl.1 rfl (lv_room (Nat.le_of_ble_eq_true rfl)) dL_law_1882 ⟨(show cells + 0 ≤ 1200384 from by (omega)), (show slots + 0 ≤ 5497258 from by (omega))⟩) hW hp4 (fun _ _ H locs hW => ?_)
  have hW : bW D g A s H locs [xW g adX (adN 0) (adT 0) (o_a tY) X, vW g adN N2, vW g adT T, oV g tY, gW L kd nu aa, pW g LR so rn ri rl, mW g adM (o_a tK) (o_a tQ) M, oM g tK, oM g tQ] := hW
  refine lv_aload_n hx hb dL_law_1885 rfl (lv_at hl 2 rfl) ?_
  refine lw_arg C hW 1 (K := 1) rfl (by decide) dL_law_1886 dL_law_1887 dL_law_1888 dL_law_1889 dL_law_1890 ?_
  obtain ⟨r5, M6, hc7, hf⟩ := q_b2s hf
  have hp8 : List.Perm (α := va_W) [xW g adX (adN 0) (adT 0) (o_a tY) X, vW g adN N2, vW g adT T, oV g tY, gW L kd nu aa, pW g LR so rn ri rl, mW g adM (o_a tK) (o_a tQ) M, oM g tK, oM g tQ] ([mW g adM (o_a tK) (o_a tQ) M] ++ [xW g adX (adN 0) (adT 0) (o_a tY) X, vW g adN N2, vW g adT T, oV g tY, gW L kd nu aa, pW g LR so rn ri rl, oM g tK, oM g tQ]) := b_perm [6] [0, 1, 2, 3, 4, 5, 7, 8] 9 rfl rfl rfl rfl
  refine b_call0 ⟨rfl, rfl⟩ (va_runV (As := [.int (xs (n + 1))]) (rest := [.int r1]) ⟨hx, hb, hml, hown, hts⟩ (m_X3_seed l D g H.size adM (o_a tK) (o_a tQ) M (xs (n + 1)) r5 M6 hc7) (cwV 1 hts (lw_V q2011 q2012 q2013 q79 q2014) rfl rfl rfl (by decide +kernel) ⟨Nat.le_of_ble_eq_true rfl, Nat.le_of_ble_eq_true rfl⟩) (b_preV (pp := 6) (q := 0) hW hp8 rfl mW_0 rfl) rfl rfl hl.1 rfl (lv_room (Nat.le_of_ble_eq_true rfl)) dL_law_1891 ⟨(show cells + 0 ≤ 1200384 from by (omega)), (show slots + 0 ≤ 5497258 from by (omega))⟩) hW hp8 (fun _ _ H locs hW => ?_)
  have hW : bW D g A s H locs [mW g adM (o_a tK) (o_a tQ) M6, xW g adX (adN 0) (adT 0) (o_a tY) X, vW g adN N2, vW g adT T, oV g tY, gW L kd nu aa, pW g LR so rn ri rl, oM g tK, oM g tQ] := hW
  obtain ⟨he9, hf⟩ := q_cs hf; have he9 := of_decide_eq_true he9
  refine lv_icmp_eq (tgt := 1948) hx hb dL_law_1894 (by decide) (fun _ => ?_) (fun hne => absurd he9 hne)
  exact kk adN tY tK tQ X N2 T L kd nu aa LR so rn ri rl M6 _ _ _ _ hf (b_perms (Bs' := [xW g adX (adN 0) (adT 0) (o_a tY) X, vW g adN N2, vW g adT T, oV g tY, gW L kd nu aa, pW g LR so rn ri rl, mW g adM (o_a tK) (o_a tQ) M6, oM g tK, oM g tQ]) hW (b_ord [1, 2, 3, 4, 5, 6, 0, 7, 8] 9 rfl rfl rfl)) (by (omega)) (by (omega))
def lf_54 (fu : Nat) (X : BC) (N : BC) (T : BC) (Yo : Option BC) (L : List Nat) (kd : Nat → Nat) (nu : Nat → Int32) (aa : Nat → Int32) (LR : List Nat) (so : Nat → Nat) (rn : Nat → Nat) (ri : Nat → Nat → Int32) (rl : Nat → Nat → Int64) (M : BC) (Ko : Option BC) (To : Option BC) (post : lwPT) : Prop :=
 q_b1 (f_X1_copied N L kd nu aa) fun (IO1 : BC) =>
 q_b1 (f_X3_image fu M Ko) fun (KO5 : BC) =>
 q_ck (decide ((1 : Int32) = 1)) (post X N T (some IO1) L kd nu aa LR so rn ri rl M (some KO5) To)
set_option maxHeartbeats 4000000 in
set_option maxRecDepth 100000 in
theorem lc_54 {p : Program} {l : Launch} {e : Env} {s : State} {m : MethodId} {below : List Frame} {meth : Method} {c : Code} {H : Heap} {locs : List Loc} {cells slots b len n : Nat} {Q : State → Prop} {xs : Nat → Int32} {adX adT adM adN : Nat → Nat} {tY tK tQ : Option ((Nat → Nat) × BC)} {ls : Array Slot} {D : va_G} {g : Nat → ClassId} {A : Nat → Prop} {X N T : BC} {L : List Nat} {kd : Nat → Nat} {nu aa : Nat → Int32} {LR : List Nat} {so rn : Nat → Nat} {ri : Nat → Nat → Int32} {rl : Nat → Nat → Int64} {M : BC} {fu : Nat} {post : lwPT} (C : lwC p l s m b c A ls adX adM len n xs) (hcs : cells + 10000 ≤ 1200384 ∧ slots + 80000 ≤ 5497258) (hW : bW D g A s H locs (lwB g adX adN adT tY adM tK tQ X N T L kd nu aa LR so rn ri rl M)) (hf : lf_54 fu X N T (tY.map Prod.snd) L kd nu aa LR so rn ri rl M (tK.map Prod.snd) (tQ.map Prod.snd) post) (kk : lwK p l e s m b below meth c D g A adX adT adM ls Q cells slots post) : W p l e room_1 s m #[.ref b] below meth c H locs cells slots Q (F0 m 1899 ls []) := by
  have C0 := C
  obtain ⟨hx, hb, hml, hown, hts, hst, -, -, -, -, -, hl⟩ := C0
  rw [lf_54] at hf
  have hW : bW D g A s H locs [xW g adX (adN 0) (adT 0) (o_a tY) X, vW g adN N, vW g adT T, oV g tY, gW L kd nu aa, pW g LR so rn ri rl, mW g adM (o_a tK) (o_a tQ) M, oM g tK, oM g tQ] := hW
  refine lv_aload_n hx hb dL_law_1899 rfl (lv_at hl 1 rfl) ?_
  obtain ⟨IO1, hc2, hf⟩ := q_b1s hf
  have hp4 : List.Perm (α := va_W) [xW g adX (adN 0) (adT 0) (o_a tY) X, vW g adN N, vW g adT T, oV g tY, gW L kd nu aa, pW g LR so rn ri rl, mW g adM (o_a tK) (o_a tQ) M, oM g tK, oM g tQ] ([xW g adX (adN 0) (adT 0) (o_a tY) X, vW g adN N, gW L kd nu aa] ++ [vW g adT T, oV g tY, pW g LR so rn ri rl, mW g adM (o_a tK) (o_a tQ) M, oM g tK, oM g tQ]) := b_perm [0, 1, 4] [2, 3, 5, 6, 7, 8] 9 rfl rfl rfl rfl
  refine b_call (va_runV (As := []) (rest := []) ⟨hx, hb, hml, hown, hts⟩ (m_X0_image l D g H.size adX (o_a tY) adN adT X N L kd nu aa IO1 hc2) (cwV 0 hts (lw_V q1427 q1428 q1429 q76 q1430) rfl rfl rfl (by decide +kernel) ⟨Nat.le_of_ble_eq_true rfl, Nat.le_of_ble_eq_true rfl⟩) (b_preV (pp := 0) (q := 0) hW hp4 rfl xW_0 rfl) rfl rfl hl.1 rfl (lv_room (Nat.le_of_ble_eq_true rfl)) dL_law_1900 ⟨(show cells + 19 ≤ 1200384 from by (omega)), (show slots + 125 ≤ 5497258 from by (omega))⟩) hW hp4 (fun adI3 _ H locs hW => ?_)
  refine W.cs (cells' := (cells + 19)) (slots' := (slots + 125)) rfl rfl ?_
  have hW : bW D g A s H locs [xW g adX (adN 0) (adT 0) (o_a (some (adI3, IO1))) X, vW g adN N, gW L kd nu aa, oV g (some (adI3, IO1)), vW g adT T, oV g tY, pW g LR so rn ri rl, mW g adM (o_a tK) (o_a tQ) M, oM g tK, oM g tQ] := hW
  refine lv_aload_n hx hb dL_law_1903 rfl (lv_at hl 2 rfl) ?_
  obtain ⟨KO5, hc6, hf⟩ := q_b1s hf
  have hp8 : List.Perm (α := va_W) [xW g adX (adN 0) (adT 0) (o_a (some (adI3, IO1))) X, vW g adN N, gW L kd nu aa, oV g (some (adI3, IO1)), vW g adT T, oV g tY, pW g LR so rn ri rl, mW g adM (o_a tK) (o_a tQ) M, oM g tK, oM g tQ] ([mW g adM (o_a tK) (o_a tQ) M, oM g tK] ++ [xW g adX (adN 0) (adT 0) (o_a (some (adI3, IO1))) X, vW g adN N, gW L kd nu aa, oV g (some (adI3, IO1)), vW g adT T, oV g tY, pW g LR so rn ri rl, oM g tQ]) := b_perm [7, 8] [0, 1, 2, 3, 4, 5, 6, 9] 10 rfl rfl rfl rfl
  refine b_call (va_runV (As := []) (rest := [.int 1]) ⟨hx, hb, hml, hown, hts⟩ (m_X3_image l D g H.size adM (o_a tQ) tK fu M KO5 hc6) (cwV 0 hts (lw_V q2015 q2016 q2017 q79 q2018) rfl rfl rfl (by decide +kernel) ⟨Nat.le_of_ble_eq_true rfl, Nat.le_of_ble_eq_true rfl⟩) (b_preV (pp := 7) (q := 0) hW hp8 rfl mW_0 rfl) rfl rfl hl.1 rfl (lv_room (Nat.le_of_ble_eq_true rfl)) dL_law_1904 ⟨(show (cells + 19) + (o_k 45 tK) ≤ 1200384 from by (have := lw_k 45 tK; have := lw_k 842 tK; omega)), (show (slots + 125) + (o_k 842 tK) ≤ 5497258 from by (have := lw_k 45 tK; have := lw_k 842 tK; omega))⟩) hW hp8 (fun adK7 _ H locs hW => ?_)
  refine W.cs (cells' := ((cells + 19) + (o_k 45 tK))) (slots' := ((slots + 125) + (o_k 842 tK))) rfl rfl ?_
  have hW : bW D g A s H locs [mW g adM (o_a (some (adK7, KO5))) (o_a tQ) M, oM g (some (adK7, KO5)), xW g adX (adN 0) (adT 0) (o_a (some (adI3, IO1))) X, vW g adN N, gW L kd nu aa, oV g (some (adI3, IO1)), vW g adT T, oV g tY, pW g LR so rn ri rl, oM g tQ] := hW
  obtain ⟨he9, hf⟩ := q_cs hf; have he9 := of_decide_eq_true he9
  refine lv_icmp_eq (tgt := 1948) hx hb dL_law_1907 (by decide) (fun _ => ?_) (fun hne => absurd he9 hne)
  exact kk adN (some (adI3, IO1)) (some (adK7, KO5)) tQ X N T L kd nu aa LR so rn ri rl M _ _ _ _ hf (b_sub (Bs' := [xW g adX (adN 0) (adT 0) (o_a (some (adI3, IO1))) X, vW g adN N, vW g adT T, oV g (some (adI3, IO1)), gW L kd nu aa, pW g LR so rn ri rl, mW g adM (o_a (some (adK7, KO5))) (o_a tQ) M, oM g (some (adK7, KO5)), oM g tQ]) (wr := [oV g tY]) hW (b_ord [2, 3, 6, 5, 4, 8, 0, 1, 9, 7] 10 rfl rfl rfl)) (by (have := lw_k 45 tK; have := lw_k 842 tK; omega)) (by (have := lw_k 45 tK; have := lw_k 842 tK; omega))
def lf_55 (fu : Nat) (X : BC) (N : BC) (T : BC) (Yo : Option BC) (L : List Nat) (kd : Nat → Nat) (nu : Nat → Int32) (aa : Nat → Int32) (LR : List Nat) (so : Nat → Nat) (rn : Nat → Nat) (ri : Nat → Nat → Int32) (rl : Nat → Nat → Int64) (M : BC) (Ko : Option BC) (To : Option BC) (post : lwPT) : Prop :=
 q_op Yo (q_b2 (f_X0_back_n X) fun (r3 : Int32) (X4 : BC) =>
 q_op Ko (q_b2 (f_X3_back_n M) fun (r9 : Int32) (M10 : BC) =>
 q_ck (decide (r3 = r9)) (post X4 N T none L kd nu aa LR so rn ri rl M10 none To)) fun (V8 : BC) =>
 q_b2 (f_X3_back_s fu M V8) fun (r14 : Int32) (M15 : BC) =>
 q_ck (decide (r3 = r14)) (post X4 N T none L kd nu aa LR so rn ri rl M15 (some V8) To)) fun (V2 : BC) =>
 q_b3 (f_X0_back_s fu X V2 L kd nu aa LR) fun (r19 : Int32) (X20 : BC) (N21 : BC) =>
 q_op Ko (q_b2 (f_X3_back_n M) fun (r27 : Int32) (M28 : BC) =>
 q_ck (decide (r19 = r27)) (post X20 N21 T (some V2) L kd nu aa LR so rn ri rl M28 none To)) fun (V26 : BC) =>
 q_b2 (f_X3_back_s fu M V26) fun (r32 : Int32) (M33 : BC) =>
 q_ck (decide (r19 = r32)) (post X20 N21 T (some V2) L kd nu aa LR so rn ri rl M33 (some V26) To)
set_option maxHeartbeats 4000000 in
set_option maxRecDepth 100000 in
theorem lc_55 {p : Program} {l : Launch} {e : Env} {s : State} {m : MethodId} {below : List Frame} {meth : Method} {c : Code} {H : Heap} {locs : List Loc} {cells slots b len n : Nat} {Q : State → Prop} {xs : Nat → Int32} {adX adT adM adN : Nat → Nat} {tY tK tQ : Option ((Nat → Nat) × BC)} {ls : Array Slot} {D : va_G} {g : Nat → ClassId} {A : Nat → Prop} {X N T : BC} {L : List Nat} {kd : Nat → Nat} {nu aa : Nat → Int32} {LR : List Nat} {so rn : Nat → Nat} {ri : Nat → Nat → Int32} {rl : Nat → Nat → Int64} {M : BC} {fu : Nat} {post : lwPT} (C : lwC p l s m b c A ls adX adM len n xs) (hcs : cells + 10000 ≤ 1200384 ∧ slots + 80000 ≤ 5497258) (hW : bW D g A s H locs (lwB g adX adN adT tY adM tK tQ X N T L kd nu aa LR so rn ri rl M)) (hf : lf_55 fu X N T (tY.map Prod.snd) L kd nu aa LR so rn ri rl M (tK.map Prod.snd) (tQ.map Prod.snd) post) (kk : lwK p l e s m b below meth c D g A adX adT adM ls Q cells slots post) : W p l e room_1 s m #[.ref b] below meth c H locs cells slots Q (F0 m 1912 ls []) := by
  have C0 := C
  obtain ⟨hx, hb, hml, hown, hts, hst, -, -, -, -, -, hl⟩ := C0
  rw [lf_55] at hf
  have hW : bW D g A s H locs [xW g adX (adN 0) (adT 0) (o_a tY) X, vW g adN N, vW g adT T, oV g tY, gW L kd nu aa, pW g LR so rn ri rl, mW g adM (o_a tK) (o_a tQ) M, oM g tK, oM g tQ] := hW
  refine lv_aload_n hx hb dL_law_1912 rfl (lv_at hl 1 rfl) ?_
  rcases tY with _ | ⟨adY1, V2⟩
  · have hf : _ := hf
    simp only [Option.map_none, q_op] at hf
    have hW : bW D g A s H locs [xW g adX (adN 0) (adT 0) (o_a none) X, vW g adN N, vW g adT T, oV g none, gW L kd nu aa, pW g LR so rn ri rl, mW g adM (o_a tK) (o_a tQ) M, oM g tK, oM g tQ] := hW
    obtain ⟨r3, X4, hc5, hf⟩ := q_b2s hf
    have hp6 : List.Perm (α := va_W) [xW g adX (adN 0) (adT 0) (o_a none) X, vW g adN N, vW g adT T, oV g none, gW L kd nu aa, pW g LR so rn ri rl, mW g adM (o_a tK) (o_a tQ) M, oM g tK, oM g tQ] ([xW g adX (adN 0) (adT 0) (o_a none) X] ++ [vW g adN N, vW g adT T, oV g none, gW L kd nu aa, pW g LR so rn ri rl, mW g adM (o_a tK) (o_a tQ) M, oM g tK, oM g tQ]) := b_perm [0] [1, 2, 3, 4, 5, 6, 7, 8] 9 rfl rfl rfl rfl
    refine b_call0 ⟨rfl, rfl⟩ (va_runV (As := []) (rest := []) ⟨hx, hb, hml, hown, hts⟩ (m_X0_back_n l D g H.size adX none adN adT X r3 X4 hc5) (cwV 0 hts (lw_V q1431 q1432 q1433 q76 q1434) rfl rfl rfl (by decide +kernel) ⟨Nat.le_of_ble_eq_true rfl, Nat.le_of_ble_eq_true rfl⟩) (b_preV (pp := 0) (q := 0) hW hp6 rfl xW_0 rfl) rfl rfl hl.1 rfl (lv_room (Nat.le_of_ble_eq_true rfl)) dL_law_1913 ⟨(show cells + 0 ≤ 1200384 from by (omega)), (show slots + 0 ≤ 5497258 from by (omega))⟩) hW hp6 (fun _ _ H locs hW => ?_)
    have hW : bW D g A s H locs [xW g adX (adN 0) (adT 0) (o_a none) X4, vW g adN N, vW g adT T, oV g none, gW L kd nu aa, pW g LR so rn ri rl, mW g adM (o_a tK) (o_a tQ) M, oM g tK, oM g tQ] := hW
    refine lv_aload_n hx hb dL_law_1916 rfl (lv_at hl 2 rfl) ?_
    rcases tK with _ | ⟨adK7, V8⟩
    · have hf : _ := hf
      simp only [Option.map_none, q_op] at hf
      have hW : bW D g A s H locs [xW g adX (adN 0) (adT 0) (o_a none) X4, vW g adN N, vW g adT T, oV g none, gW L kd nu aa, pW g LR so rn ri rl, mW g adM (o_a none) (o_a tQ) M, oM g none, oM g tQ] := hW
      obtain ⟨r9, M10, hc11, hf⟩ := q_b2s hf
      have hp12 : List.Perm (α := va_W) [xW g adX (adN 0) (adT 0) (o_a none) X4, vW g adN N, vW g adT T, oV g none, gW L kd nu aa, pW g LR so rn ri rl, mW g adM (o_a none) (o_a tQ) M, oM g none, oM g tQ] ([mW g adM (o_a none) (o_a tQ) M] ++ [xW g adX (adN 0) (adT 0) (o_a none) X4, vW g adN N, vW g adT T, oV g none, gW L kd nu aa, pW g LR so rn ri rl, oM g none, oM g tQ]) := b_perm [6] [0, 1, 2, 3, 4, 5, 7, 8] 9 rfl rfl rfl rfl
      refine b_call0 ⟨rfl, rfl⟩ (va_runV (As := []) (rest := [.int r3]) ⟨hx, hb, hml, hown, hts⟩ (m_X3_back_n l D g H.size adM (o_a tQ) M r9 M10 hc11) (cwV 0 hts (lw_V q2019 q2020 q2021 q79 q2022) rfl rfl rfl (by decide +kernel) ⟨Nat.le_of_ble_eq_true rfl, Nat.le_of_ble_eq_true rfl⟩) (b_preV (pp := 6) (q := 0) hW hp12 rfl mW_0 rfl) rfl rfl hl.1 rfl (lv_room (Nat.le_of_ble_eq_true rfl)) dL_law_1917 ⟨(show cells + 0 ≤ 1200384 from by (omega)), (show slots + 0 ≤ 5497258 from by (omega))⟩) hW hp12 (fun _ _ H locs hW => ?_)
      have hW : bW D g A s H locs [mW g adM (o_a none) (o_a tQ) M10, xW g adX (adN 0) (adT 0) (o_a none) X4, vW g adN N, vW g adT T, oV g none, gW L kd nu aa, pW g LR so rn ri rl, oM g none, oM g tQ] := hW
      obtain ⟨he13, hf⟩ := q_cs hf; have he13 := of_decide_eq_true he13
      refine lv_icmp_eq (tgt := 1948) hx hb dL_law_1920 (by decide) (fun _ => ?_) (fun hne => absurd he13 hne)
      exact kk adN none none tQ X4 N T L kd nu aa LR so rn ri rl M10 _ _ _ _ hf (b_perms (Bs' := [xW g adX (adN 0) (adT 0) (o_a none) X4, vW g adN N, vW g adT T, oV g none, gW L kd nu aa, pW g LR so rn ri rl, mW g adM (o_a none) (o_a tQ) M10, oM g none, oM g tQ]) hW (b_ord [1, 2, 3, 4, 5, 6, 0, 7, 8] 9 rfl rfl rfl)) (by (omega)) (by (omega))
    · have hf : _ := hf
      simp only [Option.map_some, q_op] at hf
      have hW : bW D g A s H locs [xW g adX (adN 0) (adT 0) (o_a none) X4, vW g adN N, vW g adT T, oV g none, gW L kd nu aa, pW g LR so rn ri rl, mW g adM (o_a (some (adK7, V8))) (o_a tQ) M, oM g (some (adK7, V8)), oM g tQ] := hW
      obtain ⟨r14, M15, hc16, hf⟩ := q_b2s hf
      have hp17 : List.Perm (α := va_W) [xW g adX (adN 0) (adT 0) (o_a none) X4, vW g adN N, vW g adT T, oV g none, gW L kd nu aa, pW g LR so rn ri rl, mW g adM (o_a (some (adK7, V8))) (o_a tQ) M, oM g (some (adK7, V8)), oM g tQ] ([mW g adM (o_a (some (adK7, V8))) (o_a tQ) M, oM g (some (adK7, V8))] ++ [xW g adX (adN 0) (adT 0) (o_a none) X4, vW g adN N, vW g adT T, oV g none, gW L kd nu aa, pW g LR so rn ri rl, oM g tQ]) := b_perm [6, 7] [0, 1, 2, 3, 4, 5, 8] 9 rfl rfl rfl rfl
      refine b_call0 ⟨rfl, rfl⟩ (va_runV (As := []) (rest := [.int r3]) ⟨hx, hb, hml, hown, hts⟩ (m_X3_back_s l D g H.size adM (o_a tQ) adK7 none none fu M V8 r14 M15 hc16) (cwV 0 hts (lw_V q2019 q2020 q2021 q79 q2022) rfl rfl rfl (by decide +kernel) ⟨Nat.le_of_ble_eq_true rfl, Nat.le_of_ble_eq_true rfl⟩) (b_preV (pp := 6) (q := 0) hW hp17 rfl mW_0 rfl) rfl rfl hl.1 rfl (lv_room (Nat.le_of_ble_eq_true rfl)) dL_law_1917 ⟨(show cells + 0 ≤ 1200384 from by (omega)), (show slots + 0 ≤ 5497258 from by (omega))⟩) hW hp17 (fun _ _ H locs hW => ?_)
      have hW : bW D g A s H locs [mW g adM (o_a (some (adK7, V8))) (o_a tQ) M15, oM g (some (adK7, V8)), xW g adX (adN 0) (adT 0) (o_a none) X4, vW g adN N, vW g adT T, oV g none, gW L kd nu aa, pW g LR so rn ri rl, oM g tQ] := hW
      obtain ⟨he18, hf⟩ := q_cs hf; have he18 := of_decide_eq_true he18
      refine lv_icmp_eq (tgt := 1948) hx hb dL_law_1920 (by decide) (fun _ => ?_) (fun hne => absurd he18 hne)
      exact kk adN none (some (adK7, V8)) tQ X4 N T L kd nu aa LR so rn ri rl M15 _ _ _ _ hf (b_perms (Bs' := [xW g adX (adN 0) (adT 0) (o_a none) X4, vW g adN N, vW g adT T, oV g none, gW L kd nu aa, pW g LR so rn ri rl, mW g adM (o_a (some (adK7, V8))) (o_a tQ) M15, oM g (some (adK7, V8)), oM g tQ]) hW (b_ord [2, 3, 4, 5, 6, 7, 0, 1, 8] 9 rfl rfl rfl)) (by (omega)) (by (omega))
  · have hf : _ := hf
    simp only [Option.map_some, q_op] at hf
    have hW : bW D g A s H locs [xW g adX (adN 0) (adT 0) (o_a (some (adY1, V2))) X, vW g adN N, vW g adT T, oV g (some (adY1, V2)), gW L kd nu aa, pW g LR so rn ri rl, mW g adM (o_a tK) (o_a tQ) M, oM g tK, oM g tQ] := hW
    obtain ⟨r19, X20, N21, hc22, hf⟩ := q_b3s hf
    have hp24 : List.Perm (α := va_W) [xW g adX (adN 0) (adT 0) (o_a (some (adY1, V2))) X, vW g adN N, vW g adT T, oV g (some (adY1, V2)), gW L kd nu aa, pW g LR so rn ri rl, mW g adM (o_a tK) (o_a tQ) M, oM g tK, oM g tQ] ([xW g adX (adN 0) (adT 0) (o_a (some (adY1, V2))) X, oV g (some (adY1, V2)), gW L kd nu aa, pW g LR so rn ri rl] ++ [vW g adN N, vW g adT T, mW g adM (o_a tK) (o_a tQ) M, oM g tK, oM g tQ]) := b_perm [0, 3, 4, 5] [1, 2, 6, 7, 8] 9 rfl rfl rfl rfl
    refine b_call (va_runV (As := []) (rest := []) ⟨hx, hb, hml, hown, hts⟩ (m_X0_back_s l D g H.size adX adN adT adY1 fu X V2 L kd nu aa LR so rn ri rl r19 X20 N21 hc22) (cwV 0 hts (lw_V q1431 q1432 q1433 q76 q1434) rfl rfl rfl (by decide +kernel) ⟨Nat.le_of_ble_eq_true rfl, Nat.le_of_ble_eq_true rfl⟩) (b_preV (pp := 0) (q := 0) hW hp24 rfl xW_0 rfl) rfl rfl hl.1 rfl (lv_room (Nat.le_of_ble_eq_true rfl)) dL_law_1913 ⟨(show cells + 19 ≤ 1200384 from by (omega)), (show slots + 125 ≤ 5497258 from by (omega))⟩) hW hp24 (fun adN23 _ H locs hW => ?_)
    refine W.cs (cells' := (cells + 19)) (slots' := (slots + 125)) rfl rfl ?_
    have hW : bW D g A s H locs [xW g adX (adN23 0) (adT 0) (o_a (some (adY1, V2))) X20, vW g adN23 N21, oV g (some (adY1, V2)), gW L kd nu aa, pW g LR so rn ri rl, vW g adN N, vW g adT T, mW g adM (o_a tK) (o_a tQ) M, oM g tK, oM g tQ] := hW
    refine lv_aload_n hx hb dL_law_1916 rfl (lv_at hl 2 rfl) ?_
    rcases tK with _ | ⟨adK25, V26⟩
    · have hf : _ := hf
      simp only [Option.map_none, q_op] at hf
      have hW : bW D g A s H locs [xW g adX (adN23 0) (adT 0) (o_a (some (adY1, V2))) X20, vW g adN23 N21, oV g (some (adY1, V2)), gW L kd nu aa, pW g LR so rn ri rl, vW g adN N, vW g adT T, mW g adM (o_a none) (o_a tQ) M, oM g none, oM g tQ] := hW
      obtain ⟨r27, M28, hc29, hf⟩ := q_b2s hf
      have hp30 : List.Perm (α := va_W) [xW g adX (adN23 0) (adT 0) (o_a (some (adY1, V2))) X20, vW g adN23 N21, oV g (some (adY1, V2)), gW L kd nu aa, pW g LR so rn ri rl, vW g adN N, vW g adT T, mW g adM (o_a none) (o_a tQ) M, oM g none, oM g tQ] ([mW g adM (o_a none) (o_a tQ) M] ++ [xW g adX (adN23 0) (adT 0) (o_a (some (adY1, V2))) X20, vW g adN23 N21, oV g (some (adY1, V2)), gW L kd nu aa, pW g LR so rn ri rl, vW g adN N, vW g adT T, oM g none, oM g tQ]) := b_perm [7] [0, 1, 2, 3, 4, 5, 6, 8, 9] 10 rfl rfl rfl rfl
      refine b_call0 ⟨rfl, rfl⟩ (va_runV (As := []) (rest := [.int r19]) ⟨hx, hb, hml, hown, hts⟩ (m_X3_back_n l D g H.size adM (o_a tQ) M r27 M28 hc29) (cwV 0 hts (lw_V q2019 q2020 q2021 q79 q2022) rfl rfl rfl (by decide +kernel) ⟨Nat.le_of_ble_eq_true rfl, Nat.le_of_ble_eq_true rfl⟩) (b_preV (pp := 7) (q := 0) hW hp30 rfl mW_0 rfl) rfl rfl hl.1 rfl (lv_room (Nat.le_of_ble_eq_true rfl)) dL_law_1917 ⟨(show (cells + 19) + 0 ≤ 1200384 from by (omega)), (show (slots + 125) + 0 ≤ 5497258 from by (omega))⟩) hW hp30 (fun _ _ H locs hW => ?_)
      have hW : bW D g A s H locs [mW g adM (o_a none) (o_a tQ) M28, xW g adX (adN23 0) (adT 0) (o_a (some (adY1, V2))) X20, vW g adN23 N21, oV g (some (adY1, V2)), gW L kd nu aa, pW g LR so rn ri rl, vW g adN N, vW g adT T, oM g none, oM g tQ] := hW
      obtain ⟨he31, hf⟩ := q_cs hf; have he31 := of_decide_eq_true he31
      refine lv_icmp_eq (tgt := 1948) hx hb dL_law_1920 (by decide) (fun _ => ?_) (fun hne => absurd he31 hne)
      exact kk adN23 (some (adY1, V2)) none tQ X20 N21 T L kd nu aa LR so rn ri rl M28 _ _ _ _ hf (b_sub (Bs' := [xW g adX (adN23 0) (adT 0) (o_a (some (adY1, V2))) X20, vW g adN23 N21, vW g adT T, oV g (some (adY1, V2)), gW L kd nu aa, pW g LR so rn ri rl, mW g adM (o_a none) (o_a tQ) M28, oM g none, oM g tQ]) (wr := [vW g adN N]) hW (b_ord [1, 2, 7, 3, 4, 5, 0, 8, 9, 6] 10 rfl rfl rfl)) (by (omega)) (by (omega))
    · have hf : _ := hf
      simp only [Option.map_some, q_op] at hf
      have hW : bW D g A s H locs [xW g adX (adN23 0) (adT 0) (o_a (some (adY1, V2))) X20, vW g adN23 N21, oV g (some (adY1, V2)), gW L kd nu aa, pW g LR so rn ri rl, vW g adN N, vW g adT T, mW g adM (o_a (some (adK25, V26))) (o_a tQ) M, oM g (some (adK25, V26)), oM g tQ] := hW
      obtain ⟨r32, M33, hc34, hf⟩ := q_b2s hf
      have hp35 : List.Perm (α := va_W) [xW g adX (adN23 0) (adT 0) (o_a (some (adY1, V2))) X20, vW g adN23 N21, oV g (some (adY1, V2)), gW L kd nu aa, pW g LR so rn ri rl, vW g adN N, vW g adT T, mW g adM (o_a (some (adK25, V26))) (o_a tQ) M, oM g (some (adK25, V26)), oM g tQ] ([mW g adM (o_a (some (adK25, V26))) (o_a tQ) M, oM g (some (adK25, V26))] ++ [xW g adX (adN23 0) (adT 0) (o_a (some (adY1, V2))) X20, vW g adN23 N21, oV g (some (adY1, V2)), gW L kd nu aa, pW g LR so rn ri rl, vW g adN N, vW g adT T, oM g tQ]) := b_perm [7, 8] [0, 1, 2, 3, 4, 5, 6, 9] 10 rfl rfl rfl rfl
      refine b_call0 ⟨rfl, rfl⟩ (va_runV (As := []) (rest := [.int r19]) ⟨hx, hb, hml, hown, hts⟩ (m_X3_back_s l D g H.size adM (o_a tQ) adK25 none none fu M V26 r32 M33 hc34) (cwV 0 hts (lw_V q2019 q2020 q2021 q79 q2022) rfl rfl rfl (by decide +kernel) ⟨Nat.le_of_ble_eq_true rfl, Nat.le_of_ble_eq_true rfl⟩) (b_preV (pp := 7) (q := 0) hW hp35 rfl mW_0 rfl) rfl rfl hl.1 rfl (lv_room (Nat.le_of_ble_eq_true rfl)) dL_law_1917 ⟨(show (cells + 19) + 0 ≤ 1200384 from by (omega)), (show (slots + 125) + 0 ≤ 5497258 from by (omega))⟩) hW hp35 (fun _ _ H locs hW => ?_)
      have hW : bW D g A s H locs [mW g adM (o_a (some (adK25, V26))) (o_a tQ) M33, oM g (some (adK25, V26)), xW g adX (adN23 0) (adT 0) (o_a (some (adY1, V2))) X20, vW g adN23 N21, oV g (some (adY1, V2)), gW L kd nu aa, pW g LR so rn ri rl, vW g adN N, vW g adT T, oM g tQ] := hW
      obtain ⟨he36, hf⟩ := q_cs hf; have he36 := of_decide_eq_true he36
      refine lv_icmp_eq (tgt := 1948) hx hb dL_law_1920 (by decide) (fun _ => ?_) (fun hne => absurd he36 hne)
      exact kk adN23 (some (adY1, V2)) (some (adK25, V26)) tQ X20 N21 T L kd nu aa LR so rn ri rl M33 _ _ _ _ hf (b_sub (Bs' := [xW g adX (adN23 0) (adT 0) (o_a (some (adY1, V2))) X20, vW g adN23 N21, vW g adT T, oV g (some (adY1, V2)), gW L kd nu aa, pW g LR so rn ri rl, mW g adM (o_a (some (adK25, V26))) (o_a tQ) M33, oM g (some (adK25, V26)), oM g tQ]) (wr := [vW g adN N]) hW (b_ord [2, 3, 8, 4, 5, 6, 0, 1, 9, 7] 10 rfl rfl rfl)) (by (omega)) (by (omega))
def lf_56 (fu : Nat) (X : BC) (N : BC) (T : BC) (Yo : Option BC) (L : List Nat) (kd : Nat → Nat) (nu : Nat → Int32) (aa : Nat → Int32) (LR : List Nat) (so : Nat → Nat) (rn : Nat → Nat) (ri : Nat → Nat → Int32) (rl : Nat → Nat → Int64) (M : BC) (Ko : Option BC) (To : Option BC) (x1 : Int32) (post : lwPT) : Prop :=
 q_b1 (f_X0_status fu X N T L kd nu aa x1) fun (r1 : Int32) =>
 q_b1 (f_X3_status fu M x1) fun (r4 : Int32) =>
 q_ck (decide (r1 = r4)) (post X N T Yo L kd nu aa LR so rn ri rl M Ko To)
set_option maxHeartbeats 4000000 in
set_option maxRecDepth 100000 in
theorem lc_56 {p : Program} {l : Launch} {e : Env} {s : State} {m : MethodId} {below : List Frame} {meth : Method} {c : Code} {H : Heap} {locs : List Loc} {cells slots b len n : Nat} {Q : State → Prop} {xs : Nat → Int32} {adX adT adM adN : Nat → Nat} {tY tK tQ : Option ((Nat → Nat) × BC)} {ls : Array Slot} {D : va_G} {g : Nat → ClassId} {A : Nat → Prop} {X N T : BC} {L : List Nat} {kd : Nat → Nat} {nu aa : Nat → Int32} {LR : List Nat} {so rn : Nat → Nat} {ri : Nat → Nat → Int32} {rl : Nat → Nat → Int64} {M : BC} {fu : Nat} {post : lwPT} (C : lwC p l s m b c A ls adX adM len n xs) (hcs : cells + 10000 ≤ 1200384 ∧ slots + 80000 ≤ 5497258) (hW : bW D g A s H locs (lwB g adX adN adT tY adM tK tQ X N T L kd nu aa LR so rn ri rl M)) (hf : lf_56 fu X N T (tY.map Prod.snd) L kd nu aa LR so rn ri rl M (tK.map Prod.snd) (tQ.map Prod.snd) (xs (n + 1)) post) (kk : lwK p l e s m b below meth c D g A adX adT adM ls Q cells slots post) : W p l e room_1 s m #[.ref b] below meth c H locs cells slots Q (F0 m 1925 ls []) := by
  have C0 := C
  obtain ⟨hx, hb, hml, hown, hts, hst, -, -, -, -, -, hl⟩ := C0
  rw [lf_56] at hf
  have hW : bW D g A s H locs [xW g adX (adN 0) (adT 0) (o_a tY) X, vW g adN N, vW g adT T, oV g tY, gW L kd nu aa, pW g LR so rn ri rl, mW g adM (o_a tK) (o_a tQ) M, oM g tK, oM g tQ] := hW
  refine lv_aload_n hx hb dL_law_1925 rfl (lv_at hl 1 rfl) ?_
  refine lw_arg C hW 1 (K := 1) rfl (by decide) dL_law_1926 dL_law_1927 dL_law_1928 dL_law_1929 dL_law_1930 ?_
  obtain ⟨r1, hc2, hf⟩ := q_b1s hf
  have hp3 : List.Perm (α := va_W) [xW g adX (adN 0) (adT 0) (o_a tY) X, vW g adN N, vW g adT T, oV g tY, gW L kd nu aa, pW g LR so rn ri rl, mW g adM (o_a tK) (o_a tQ) M, oM g tK, oM g tQ] ([xW g adX (adN 0) (adT 0) (o_a tY) X, vW g adN N, vW g adT T, gW L kd nu aa] ++ [oV g tY, pW g LR so rn ri rl, mW g adM (o_a tK) (o_a tQ) M, oM g tK, oM g tQ]) := b_perm [0, 1, 2, 4] [3, 5, 6, 7, 8] 9 rfl rfl rfl rfl
  refine b_call0 ⟨rfl, rfl⟩ (va_runV (As := [.int (xs (n + 1))]) (rest := []) ⟨hx, hb, hml, hown, hts⟩ (m_X0_status l D g H.size adX (o_a tY) adN adT fu X N T L kd nu aa (xs (n + 1)) r1 hc2) (cwV 1 hts (lw_V q1435 q1436 q1437 q76 q1438) rfl rfl rfl (by decide +kernel) ⟨Nat.le_of_ble_eq_true rfl, Nat.le_of_ble_eq_true rfl⟩) (b_preV (pp := 0) (q := 0) hW hp3 rfl xW_0 rfl) rfl rfl hl.1 rfl (lv_room (Nat.le_of_ble_eq_true rfl)) dL_law_1931 ⟨(show cells + 0 ≤ 1200384 from by (omega)), (show slots + 0 ≤ 5497258 from by (omega))⟩) hW hp3 (fun _ _ H locs hW => ?_)
  have hW : bW D g A s H locs [xW g adX (adN 0) (adT 0) (o_a tY) X, vW g adN N, vW g adT T, gW L kd nu aa, oV g tY, pW g LR so rn ri rl, mW g adM (o_a tK) (o_a tQ) M, oM g tK, oM g tQ] := hW
  refine lv_aload_n hx hb dL_law_1934 rfl (lv_at hl 2 rfl) ?_
  refine lw_arg C hW 1 (K := 1) rfl (by decide) dL_law_1935 dL_law_1936 dL_law_1937 dL_law_1938 dL_law_1939 ?_
  obtain ⟨r4, hc5, hf⟩ := q_b1s hf
  have hp6 : List.Perm (α := va_W) [xW g adX (adN 0) (adT 0) (o_a tY) X, vW g adN N, vW g adT T, gW L kd nu aa, oV g tY, pW g LR so rn ri rl, mW g adM (o_a tK) (o_a tQ) M, oM g tK, oM g tQ] ([mW g adM (o_a tK) (o_a tQ) M] ++ [xW g adX (adN 0) (adT 0) (o_a tY) X, vW g adN N, vW g adT T, gW L kd nu aa, oV g tY, pW g LR so rn ri rl, oM g tK, oM g tQ]) := b_perm [6] [0, 1, 2, 3, 4, 5, 7, 8] 9 rfl rfl rfl rfl
  refine b_call0 ⟨rfl, rfl⟩ (va_runV (As := [.int (xs (n + 1))]) (rest := [.int r1]) ⟨hx, hb, hml, hown, hts⟩ (m_X3_status l D g H.size adM (o_a tK) (o_a tQ) fu M (xs (n + 1)) r4 hc5) (cwV 1 hts (lw_V q2023 q2024 q2025 q79 q2026) rfl rfl rfl (by decide +kernel) ⟨Nat.le_of_ble_eq_true rfl, Nat.le_of_ble_eq_true rfl⟩) (b_preV (pp := 6) (q := 0) hW hp6 rfl mW_0 rfl) rfl rfl hl.1 rfl (lv_room (Nat.le_of_ble_eq_true rfl)) dL_law_1940 ⟨(show cells + 0 ≤ 1200384 from by (omega)), (show slots + 0 ≤ 5497258 from by (omega))⟩) hW hp6 (fun _ _ H locs hW => ?_)
  have hW : bW D g A s H locs [mW g adM (o_a tK) (o_a tQ) M, xW g adX (adN 0) (adT 0) (o_a tY) X, vW g adN N, vW g adT T, gW L kd nu aa, oV g tY, pW g LR so rn ri rl, oM g tK, oM g tQ] := hW
  obtain ⟨he7, hf⟩ := q_cs hf; have he7 := of_decide_eq_true he7
  refine lv_icmp_eq (tgt := 1948) hx hb dL_law_1943 (by decide) (fun _ => ?_) (fun hne => absurd he7 hne)
  exact kk adN tY tK tQ X N T L kd nu aa LR so rn ri rl M _ _ _ _ hf (b_perms (Bs' := [xW g adX (adN 0) (adT 0) (o_a tY) X, vW g adN N, vW g adT T, oV g tY, gW L kd nu aa, pW g LR so rn ri rl, mW g adM (o_a tK) (o_a tQ) M, oM g tK, oM g tQ]) hW (b_ord [1, 2, 3, 5, 4, 6, 0, 7, 8] 9 rfl rfl rfl)) (by (omega)) (by (omega))
