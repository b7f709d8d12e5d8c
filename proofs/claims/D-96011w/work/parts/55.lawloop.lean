/-! THE LAW's loop -/
set_option maxRecDepth 100000
theorem lw_mask (x : Int32) : ∃ k, k < 64 ∧ x &&& 63 = nI k := by
  refine ⟨(x.toBitVec &&& 63#32).toNat, ?_, ?_⟩
  · rw [BitVec.toNat_and]
    have h := Nat.and_le_right (n := x.toBitVec.toNat) (m := (63#32).toNat)
    have h2 : (63#32).toNat = 63 := by decide
    omega
  · apply Int32.toBitVec_inj.mp
    show x.toBitVec &&& 63#32 = (Int32.ofNat (x.toBitVec &&& 63#32).toNat).toBitVec
    rw [Int32.toBitVec_ofNat']
    simp
theorem lw_nIt {n : Nat} (h : n < 2147483648) : (nI n).toInt = (n : Int) := Int32.toInt_ofNat_of_lt (by show n < 2 ^ 31; omega)
theorem lw_cmp {len n : Nat} (h1 : len ≤ 384) (h2 : n ≤ 390) : (nI len - 6 < nI n) ↔ len < n + 6 := by
  have e1 := lw_nIt (n := len) (by omega)
  have e2 := lw_nIt (n := n) (by omega)
  have e3 : (nI len - 6).toInt = (len : Int) - 6 := by
    rw [Int32.toInt_sub, e1]
    have e4 : (6 : Int32).toInt = 6 := rfl
    rw [e4]
    unfold Int.bmod
    simp only []
    split <;> omega
  rw [Int32.lt_iff_toInt_lt, e3, e2]
  omega
/-- an invariant that every case keeps (j: how many cases have been) -/
def lwInv (g : Nat → Nat) (Inv : Nat → lwPT) : Prop := ∀ j, j < 64 → ∀ (X : BC) (N : BC) (T : BC) (Yo : Option BC) (L : List Nat) (kd : Nat → Nat) (nu : Nat → Int32) (aa : Nat → Int32) (LR : List Nat) (so : Nat → Nat) (rn : Nat → Nat) (ri : Nat → Nat → Int32) (rl : Nat → Nat → Int64) (M : BC) (Ko : Option BC) (To : Option BC), Inv j X N T Yo L kd nu aa LR so rn ri rl M Ko To → ∀ k, k < 64 → ∀ x1 x2 x3 x4 x5 : Int32, lf k g X N T Yo L kd nu aa LR so rn ri rl M Ko To x1 x2 x3 x4 x5 (Inv (j + 1))
theorem lw_loop {p : Program} {l : Launch} {e : Env} {s : State} {m : MethodId} {below : List Frame} {meth : Method} {c : Code} {b len : Nat} {xs : Nat → Int32} {adX adT adM : Nat → Nat} {D : va_G} {g : Nat → ClassId} {Inv : Nat → lwPT} (hI : lwInv g Inv) (hst : l.stackTraces = false) (hL : len ≤ 384) (C0 : lw_At p s m meth c b len xs) :
    ∀ (r j : Nat), 64 ≤ j + r → 6 * j ≤ len → ∀ (adN : Nat → Nat) (tY tK tQ : Option ((Nat → Nat) × BC)) (X N T : BC) (L : List Nat) (kd : Nat → Nat) (nu aa : Nat → Int32) (LR : List Nat) (so rn : Nat → Nat) (ri : Nat → Nat → Int32) (rl : Nat → Nat → Int64) (M : BC) (H : Heap) (locs : List Loc) (cells slots : Nat) (ls : Array Slot),
      Inv j X N T (tY.map Prod.snd) L kd nu aa LR so rn ri rl M (tK.map Prod.snd) (tQ.map Prod.snd) → bW D g (fun q => s.heap.size ≤ q) s H locs (lwB g adX adN adT tY adM tK tQ X N T L kd nu aa LR so rn ri rl M) → cells ≤ 1000 + j * 10000 → slots ≤ 10000 + j * 80000 → lv_has ls 4 [(0, .ref b), (1, .ref (adX 0)), (2, .ref (adM 0)), (3, .int (nI (6 * j)))] →
      W p l e room_1 s m #[.ref b] below meth c H locs cells slots (lw_Z below #[Value.ref b] s) (F0 m 18 ls []) := by
  obtain ⟨hx, hb, hr, hml, hown, hts, hX, hbl, hlocks, hgv, hmod⟩ := id C0
  have hbA : ¬ (fun q : Nat => s.heap.size ≤ q) b := Nat.not_le.mpr hbl
  have htg : ∀ w ∈ lw_all, w.before #[Value.ref b] s = true := fun w hw => hts w (lw_all_tbl hw)
  intro r
  induction r with
  | zero =>
    intro j hj hj2 adN tY tK tQ X N T L kd nu aa LR so rn ri rl M H locs cells slots ls hi hW hc hs hl
    have hj3 : j = 64 := by omega
    subst hj3
    refine lv_iload_n hx hb dL_law_18 rfl (lv_at hl 3 rfl) ?_
    refine lv_aload_n hx hb dL_law_19 rfl (lv_at hl 0 rfl) ?_
    refine va_slen hx hb hX hbl hbA hW.2.2.2.1 dL_law_20 ?_
    refine lv_bipush (v := 6) hx hb dL_law_21 (by decide) ?_
    refine lv_isub hx hb dL_law_23 ?_
    refine lv_icmp_gt (tgt := 1954) hx hb dL_law_24 (by decide) (fun _ => ?_) (fun hn => absurd ((lw_cmp hL (by omega)).mpr (by omega)) hn)
    refine va_forget (fun q hq => hW.2.2.2.1.2.2 q hq) ?_
    refine W.widen (k := 1200384) (n := 5497258) (by omega) (by omega) ?_
    refine lv_iconst (v := 1) hx hb dL_law_1954 (by decide) ?_
    exact lw_ret hx hb hr hlocks dL_law_1955
  | succ r ih =>
    intro j hj hj2 adN tY tK tQ X N T L kd nu aa LR so rn ri rl M H locs cells slots ls hi hW hc hs hl
    refine lv_iload_n hx hb dL_law_18 rfl (lv_at hl 3 rfl) ?_
    refine lv_aload_n hx hb dL_law_19 rfl (lv_at hl 0 rfl) ?_
    refine va_slen hx hb hX hbl hbA hW.2.2.2.1 dL_law_20 ?_
    refine lv_bipush (v := 6) hx hb dL_law_21 (by decide) ?_
    refine lv_isub hx hb dL_law_23 ?_
    refine lv_icmp_gt (tgt := 1954) hx hb dL_law_24 (by decide) (fun _ => ?_) (fun hn => ?_)
    · refine va_forget (fun q hq => hW.2.2.2.1.2.2 q hq) ?_
      refine W.widen (k := 1200384) (n := 5497258) (by omega) (by omega) ?_
      refine lv_iconst (v := 1) hx hb dL_law_1954 (by decide) ?_
      exact lw_ret hx hb hr hlocks dL_law_1955
    · have hn6 : 6 * j + 6 ≤ len := by
        have h7 : ¬ len < 6 * j + 6 := fun h => hn ((lw_cmp hL (by omega)).mpr h)
        omega
      obtain ⟨k, hk, hv⟩ := lw_mask (xs (6 * j))
      have C : lwC p l s m b c (fun q => s.heap.size ≤ q) ls adX adM len (6 * j) xs := ⟨hx, hb, hml, hown, htg, hst, hX, hbl, hbA, hn6, hL, hl⟩
      refine lc_all C ⟨by omega, by omega⟩ hW hk hv (hI j (by omega) _ _ _ _ _ _ _ _ _ _ _ _ _ _ _ _ hi k hk _ _ _ _ _) ?_
      intro adN tY tK tQ X N T L kd nu aa LR so rn ri rl M H locs cells' slots' hi hW hc' hs'
      refine lv_iinc (v := nI (6 * (j + 1))) (lv' := [(3, .int (nI (6 * (j + 1)))), (0, .ref b), (1, .ref (adX 0)), (2, .ref (adM 0))]) hx hb dL_law_1948 hl (k := 3) rfl (lw_nI (6 * j) 6) (by decide) rfl (fun ls hl => ?_)
      refine lv_goto (tgt := 18) hx hb dL_law_1951 (by decide) ?_
      exact ih (j + 1) (by omega) (by omega) adN tY tK tQ X N T L kd nu aa LR so rn ri rl M H locs cells' slots' ls hi hW (by omega) (by omega) (lv_sub hl [1, 2, 3, 0] rfl)
